/-! THE REFERENCE, printed by m17.py: typing, writing -/
set_option maxHeartbeats 4000000 in
set_option maxRecDepth 100000 in
theorem c_X4_append {D : Gd} {fr : Nat} {m : Nat} {ad : Nat → Nat} {S : Ms} {h : Hm} (hM : MW m ad S h) (hf : 1 ≤ fr) (t : Nat) (ht : S.2 2 = nI t) (ht8 : t ≤ 80) (c : Int32) : MC D fr yX4_append cX4_append 2 (some .int) m ad h [.int c] (some (.int (mop_append S c).2.1)) ((mop_append S c).2.2) := by
  refine AM.of (lv := [some (.ref m), some (.int c)]) (by decide +kernel) (Nat.le_of_ble_eq_true rfl) rfl (fun z hX hq _ => ?_)
  have hM := hM.rf
  refine aw_ald0 hX dX4_append_0 ?_
  refine aw_iconst (v := 0) hX dX4_append_1 (by decide) ?_
  refine mm_put hX hM 1 fp_X4_39 (by decide) dX4_append_2 (fun hp hM => ?_)
  refine aw_ild1 hX dX4_append_5 ?_
  refine aw_bipush (v := 33) hX dX4_append_6 (by decide) ?_
  refine aw_bipush (v := 126) hX dX4_append_8 (by decide) ?_
  refine ss_call hX lk_X4_46 (c_X4_in (fr := fr - 1) (by omega) _ _ _) rfl rfl (Nat.le_of_ble_eq_true rfl) (by omega) (by decide) (Nat.le_refl _) (Nat.le_refl _) dX4_append_10 ?_
  refine aw_if_ne hX (tgt := 22) dX4_append_13 (by decide) (fun c13 => ?_) (fun c13 => ?_)
  · have b13 := bI_n0 c13
    refine aw_ald0 hX dX4_append_22 ?_
    refine mm_get hX hM fg_X4_159 rfl dX4_append_23 ?_
    refine aw_bipush (v := 80) hX dX4_append_26 (by decide) ?_
    refine aw_icmp_ne hX (tgt := 37) dX4_append_28 (by decide) (fun c28 => ?_) (fun c28 => ?_)
    · refine aw_ald0 hX dX4_append_37 ?_
      refine mm_get hX hM fg_X4_23 rfl dX4_append_38 ?_
      refine aw_ald0 hX dX4_append_41 ?_
      refine mm_get hX hM fg_X4_159 rfl dX4_append_42 ?_
      have htl : t < 80 := by
        rcases Nat.lt_or_ge t 80 with q | q
        · exact q
        · exfalso
          have : t = 80 := by omega
          subst this
          exact c28 ht
      refine aw_ild1 hX dX4_append_45 ?_
      refine mm_st hX hM (by decide) (t) (ht) (by simp only [mLen]; omega) dX4_append_46 (fun hp hM => ?_)
      refine aw_ald0 hX dX4_append_47 ?_
      refine aw_dup hX dX4_append_48 rfl ?_
      refine mm_get hX hM fg_X4_159 rfl dX4_append_49 ?_
      refine aw_iconst (v := 1) hX dX4_append_52 (by decide) ?_
      refine aw_iadd hX dX4_append_53 ?_
      refine mm_put hX hM 2 fp_X4_159 (by decide) dX4_append_54 (fun hp hM => ?_)
      refine aw_ald0 hX dX4_append_57 ?_
      refine mm_get hX hM fg_X4_159 rfl dX4_append_58 ?_
      refine aw_iret hX (Nat.le_refl _) (Nat.le_refl _) dX4_append_61 (hq _ _ ?_)
      rw [show mop_append S c = (0, S.2 2 + 1, sV (sA (sV S 1 0) 4 (upd (S.1 4) t c)) 2 (S.2 2 + 1)) from by unfold mop_append; rw [if_neg (by rw [b13]; decide), if_neg (show ¬ S.2 2 = 80 from c28), ht, mN_i (by omega)]]
      exact ⟨rfl, hM⟩
    · refine aw_ald0 hX dX4_append_31 ?_
      refine aw_iconst (v := 2) hX dX4_append_32 (by decide) ?_
      refine mm_call hX hM lk_X4_76 rfl (c_X4_fails (fr := fr - 1) hM.1 (by omega) 2) rfl rfl (Nat.le_of_ble_eq_true rfl) (by omega) (by decide) (Nat.le_refl _) (Nat.le_refl _) dX4_append_33 (fun hp hM => ?_)
      refine aw_iret hX (Nat.le_refl _) (Nat.le_refl _) dX4_append_36 (hq _ _ ?_)
      first
        | (have e9 : mop_append S c = mBad S 2 := by (unfold mop_append; simp [of_decide_eq_true b13, show S.2 2 = 80 from c28])
           rw [e9]
           exact ⟨rfl, hM.cg (sV_sV S 1 0 2)⟩)
  · have b13 := bI_0' c13
    refine aw_ald0 hX dX4_append_16 ?_
    refine aw_iconst (v := 1) hX dX4_append_17 (by decide) ?_
    refine mm_call hX hM lk_X4_76 rfl (c_X4_fails (fr := fr - 1) hM.1 (by omega) 1) rfl rfl (Nat.le_of_ble_eq_true rfl) (by omega) (by decide) (Nat.le_refl _) (Nat.le_refl _) dX4_append_18 (fun hp hM => ?_)
    refine aw_iret hX (Nat.le_refl _) (Nat.le_refl _) dX4_append_21 (hq _ _ ?_)
    first
      | (have e9 : mop_append S c = mBad S 1 := by (unfold mop_append; simp [of_decide_eq_false b13])
         rw [e9]
         exact ⟨rfl, hM.cg (sV_sV S 1 0 1)⟩)
set_option maxHeartbeats 4000000 in
set_option maxRecDepth 100000 in
theorem c_X4_clear {D : Gd} {fr : Nat} {m : Nat} {ad : Nat → Nat} {S : Ms} {h : Hm} (hM : MW m ad S h) (hf : 0 ≤ fr)  : MC D fr yX4_clear cX4_clear 2 (some .int) m ad h [] (some (.int (mop_clear S).2.1)) ((mop_clear S).2.2) := by
  refine AM.of (lv := [some (.ref m), none]) (by decide +kernel) (Nat.le_of_ble_eq_true rfl) rfl (fun z hX hq _ => ?_)
  have hM := hM.rf
  refine aw_ald0 hX dX4_clear_0 ?_
  refine aw_iconst (v := 0) hX dX4_clear_1 (by decide) ?_
  refine mm_put hX hM 1 fp_X4_39 (by decide) dX4_clear_2 (fun hp hM => ?_)
  refine aw_ald0 hX dX4_clear_5 ?_
  refine mm_get hX hM fg_X4_159 rfl dX4_clear_6 ?_
  refine aw_ist1 hX dX4_clear_9 (by decide) rfl ?_
  refine aw_ald0 hX dX4_clear_10 ?_
  refine aw_iconst (v := 0) hX dX4_clear_11 (by decide) ?_
  refine mm_put hX hM 2 fp_X4_159 (by decide) dX4_clear_12 (fun hp hM => ?_)
  refine aw_ild1 hX dX4_clear_15 ?_
  refine aw_iret hX (Nat.le_refl _) (Nat.le_refl _) dX4_clear_16 (hq _ _ ?_)
  exact ⟨rfl, hM⟩
set_option maxHeartbeats 4000000 in
set_option maxRecDepth 100000 in
theorem c_X4_codeAt {D : Gd} {fr : Nat} {m : Nat} {ad : Nat → Nat} {S : Ms} {h : Hm} (hM : MW m ad S h) (hf : 1 ≤ fr) (t : Nat) (ht : S.2 2 = nI t) (ht8 : t ≤ 80) (i : Int32) : MC D fr yX4_codeAt cX4_codeAt 2 (some .int) m ad h [.int i] (some (.int (mq_codeAt S i).2.1)) ((mq_codeAt S i).2.2) := by
  refine AM.of (lv := [some (.ref m), some (.int i)]) (by decide +kernel) (Nat.le_of_ble_eq_true rfl) rfl (fun z hX hq _ => ?_)
  have hM := hM.rf
  refine aw_ald0 hX dX4_codeAt_0 ?_
  refine aw_iconst (v := 0) hX dX4_codeAt_1 (by decide) ?_
  refine mm_put hX hM 1 fp_X4_39 (by decide) dX4_codeAt_2 (fun hp hM => ?_)
  refine aw_ild1 hX dX4_codeAt_5 ?_
  refine aw_iconst (v := 0) hX dX4_codeAt_6 (by decide) ?_
  refine aw_bipush (v := 79) hX dX4_codeAt_7 (by decide) ?_
  refine ss_call hX lk_X4_46 (c_X4_in (fr := fr - 1) (by omega) _ _ _) rfl rfl (Nat.le_of_ble_eq_true rfl) (by omega) (by decide) (Nat.le_refl _) (Nat.le_refl _) dX4_codeAt_9 ?_
  refine aw_if_ne hX (tgt := 23) dX4_codeAt_12 (by decide) (fun c12 => ?_) (fun c12 => ?_)
  · have b12 := bI_n0 c12
    obtain ⟨j, hj, rfl⟩ := nin (n := 79) (of_decide_eq_true b12).1 (of_decide_eq_true b12).2 (by decide)
    refine aw_ild1 hX dX4_codeAt_23 ?_
    refine aw_ald0 hX dX4_codeAt_24 ?_
    refine mm_get hX hM fg_X4_159 rfl dX4_codeAt_25 ?_
    refine aw_icmp_ge hX (tgt := 40) dX4_codeAt_28 (by decide) (fun c28 => ?_) (fun c28 => ?_)
    · refine aw_iconst (v := -1) hX dX4_codeAt_40 (by decide) ?_
      refine aw_iret hX (Nat.le_refl _) (Nat.le_refl _) dX4_codeAt_41 (hq _ _ ?_)
      rw [show mq_codeAt S (nI j) = mQ S 0 (-1) from by unfold mq_codeAt; rw [if_neg (by rw [b12]; decide), if_neg (show ¬ nI j < S.2 2 from Int32.not_lt.mpr c28)]]
      exact ⟨rfl, hM⟩
    · refine aw_ald0 hX dX4_codeAt_31 ?_
      refine mm_get hX hM fg_X4_23 rfl dX4_codeAt_32 ?_
      refine aw_ild1 hX dX4_codeAt_35 ?_
      refine mm_ld hX hM (by decide) (j) (rfl) (by simp only [mLen]; omega) dX4_codeAt_36 ?_
      refine aw_goto hX (tgt := 41) dX4_codeAt_37 (by decide) ?_
      refine aw_iret hX (Nat.le_refl _) (Nat.le_refl _) dX4_codeAt_41 (hq _ _ ?_)
      rw [show mq_codeAt S (nI j) = mQ S 0 (S.1 4 j) from by unfold mq_codeAt; rw [if_neg (by rw [b12]; decide), if_pos (show nI j < S.2 2 from Int32.not_le.mp c28), mN_i (by omega)]]
      exact ⟨rfl, hM⟩
  · have b12 := bI_0' c12
    refine aw_ald0 hX dX4_codeAt_15 ?_
    refine aw_iconst (v := 1) hX dX4_codeAt_16 (by decide) ?_
    refine mm_call hX hM lk_X4_76 rfl (c_X4_fails (fr := fr - 1) hM.1 (by omega) 1) rfl rfl (Nat.le_of_ble_eq_true rfl) (by omega) (by decide) (Nat.le_refl _) (Nat.le_refl _) dX4_codeAt_17 (fun hp hM => ?_)
    refine aw_goto hX (tgt := 41) dX4_codeAt_20 (by decide) ?_
    refine aw_iret hX (Nat.le_refl _) (Nat.le_refl _) dX4_codeAt_41 (hq _ _ ?_)
    rw [show mq_codeAt S i = mQ S 1 0 from by unfold mq_codeAt; rw [if_pos b12]]
    exact ⟨rfl, hM.cg (sV_sV S 1 0 1)⟩
set_option maxHeartbeats 4000000 in
set_option maxRecDepth 100000 in
theorem c_X4_puts {D : Gd} {fr : Nat} {m : Nat} {ad : Nat → Nat} {S : Ms} {h : Hm} (hM : MW m ad S h) (hf : 0 ≤ fr) (k : Nat) (ek : S.2 2 = nI k) (hk : k < 80) (c : Int32) : MC D fr yX4_puts cX4_puts 2 none m ad h [.int c] (none) (mPuts S [c]) := by
  refine AM.of (lv := [some (.ref m), some (.int c)]) (by decide +kernel) (Nat.le_of_ble_eq_true rfl) rfl (fun z hX hq _ => ?_)
  have hM := hM.rf
  refine aw_ald0 hX dX4_puts_0 ?_
  refine mm_get hX hM fg_X4_23 rfl dX4_puts_1 ?_
  refine aw_ald0 hX dX4_puts_4 ?_
  refine mm_get hX hM fg_X4_159 rfl dX4_puts_5 ?_
  refine aw_ild1 hX dX4_puts_8 ?_
  refine mm_st hX hM (by decide) (k) (ek) (by simp only [mLen]; omega) dX4_puts_9 (fun hp hM => ?_)
  refine aw_ald0 hX dX4_puts_10 ?_
  refine aw_dup hX dX4_puts_11 rfl ?_
  refine mm_get hX hM fg_X4_159 rfl dX4_puts_12 ?_
  refine aw_iconst (v := 1) hX dX4_puts_15 (by decide) ?_
  refine aw_iadd hX dX4_puts_16 ?_
  refine mm_put hX hM 2 fp_X4_159 (by decide) dX4_puts_17 (fun hp hM => ?_)
  refine aw_vret hX (Nat.le_refl _) (Nat.le_refl _) dX4_puts_20 (hq _ _ ?_)
  refine ⟨rfl, hM.cg ?_⟩
  show _ = sV (sA S 4 (upd (S.1 4) (mN (S.2 2)) c)) 2 (S.2 2 + 1)
  rw [ek, mN_i (by omega)]
  show sV _ 2 (S.2 2 + 1) = _
  rw [ek]
set_option maxHeartbeats 4000000 in
set_option maxRecDepth 100000 in
theorem c_X4_putsNumber {D : Gd} {fr : Nat} {m : Nat} {ad : Nat → Nat} {S : Ms} {h : Hm} (hM : MW m ad S h) (hf : 1 ≤ fr) (k : Nat) (ek : S.2 2 = nI k) (hk : k + 1 < 80) (x : Int32) : MC D fr yX4_putsNumber cX4_putsNumber 2 none m ad h [.int x] (none) (mPuts S (wNum x)) := by
  refine AM.of (lv := [some (.ref m), some (.int x)]) (by decide +kernel) (Nat.le_of_ble_eq_true rfl) rfl (fun z hX hq _ => ?_)
  have hM := hM.rf
  refine aw_ild1 hX dX4_putsNumber_0 ?_
  refine aw_bipush (v := 9) hX dX4_putsNumber_1 (by decide) ?_
  refine aw_icmp_le hX (tgt := 17) dX4_putsNumber_3 (by decide) (fun c3 => ?_) (fun c3 => ?_)
  · refine aw_ald0 hX dX4_putsNumber_17 ?_
    refine aw_bipush (v := 48) hX dX4_putsNumber_18 (by decide) ?_
    refine aw_ild1 hX dX4_putsNumber_20 ?_
    refine aw_bipush (v := 10) hX dX4_putsNumber_21 (by decide) ?_
    refine aw_irem hX dX4_putsNumber_23 (by decide) ?_
    refine aw_iadd hX dX4_putsNumber_24 ?_
    refine mm_call hX hM lk_X4_196 rfl (c_X4_puts (fr := fr - 1) hM.1 (by omega) k ek (by omega) _) rfl rfl (Nat.le_of_ble_eq_true rfl) (by omega) (by decide) (Nat.le_refl _) (Nat.le_refl _) dX4_putsNumber_25 (fun hp hM => ?_)
    refine aw_vret hX (Nat.le_refl _) (Nat.le_refl _) dX4_putsNumber_28 (hq _ _ ?_)
    exact ⟨rfl, hM.cg (by unfold wNum; rw [if_neg (Int32.not_lt.mpr c3)])⟩
  · refine aw_ald0 hX dX4_putsNumber_6 ?_
    refine aw_bipush (v := 48) hX dX4_putsNumber_7 (by decide) ?_
    refine aw_ild1 hX dX4_putsNumber_9 ?_
    refine aw_bipush (v := 10) hX dX4_putsNumber_10 (by decide) ?_
    refine aw_idiv hX dX4_putsNumber_12 (by decide) ?_
    refine aw_iadd hX dX4_putsNumber_13 ?_
    refine mm_call hX hM lk_X4_196 rfl (c_X4_puts (fr := fr - 1) hM.1 (by omega) k ek (by omega) _) rfl rfl (Nat.le_of_ble_eq_true rfl) (by omega) (by decide) (Nat.le_refl _) (Nat.le_refl _) dX4_putsNumber_14 (fun hp hM => ?_)
    refine aw_ald0 hX dX4_putsNumber_17 ?_
    refine aw_bipush (v := 48) hX dX4_putsNumber_18 (by decide) ?_
    refine aw_ild1 hX dX4_putsNumber_20 ?_
    refine aw_bipush (v := 10) hX dX4_putsNumber_21 (by decide) ?_
    refine aw_irem hX dX4_putsNumber_23 (by decide) ?_
    refine aw_iadd hX dX4_putsNumber_24 ?_
    refine mm_call hX hM lk_X4_196 rfl (c_X4_puts (fr := fr - 1) hM.1 (by omega) (k + 1) (mPuts_2 ek [_]) hk _) rfl rfl (Nat.le_of_ble_eq_true rfl) (by omega) (by decide) (Nat.le_refl _) (Nat.le_refl _) dX4_putsNumber_25 (fun hp hM => ?_)
    refine aw_vret hX (Nat.le_refl _) (Nat.le_refl _) dX4_putsNumber_28 (hq _ _ ?_)
    exact ⟨rfl, hM.cg (by unfold wNum; rw [if_pos (Int32.not_le.mp c3)]; rfl)⟩
set_option maxHeartbeats 4000000 in
set_option maxRecDepth 100000 in
theorem c_X4_putsRight {D : Gd} {fr : Nat} {m : Nat} {ad : Nat → Nat} {S : Ms} {h : Hm} (hM : MW m ad S h) (hf : 1 ≤ fr) (k : Nat) (ek : S.2 2 = nI k) (hk : k < 80) (set r c : Int32) : MC D fr yX4_putsRight cX4_putsRight 4 none m ad h [.int set, .int r, .int c] (none) (mPuts S (wIf (mHas set r) c)) := by
  refine AM.of (lv := [some (.ref m), some (.int set), some (.int r), some (.int c)]) (by decide +kernel) (Nat.le_of_ble_eq_true rfl) rfl (fun z hX hq _ => ?_)
  have hM := hM.rf
  refine aw_ild1 hX dX4_putsRight_0 ?_
  refine aw_ild2 hX dX4_putsRight_1 ?_
  refine ss_call hX lk_X4_65 (c_X4_has (fr := fr - 1) (by omega) _ _) rfl rfl (Nat.le_of_ble_eq_true rfl) (by omega) (by decide) (Nat.le_refl _) (Nat.le_refl _) dX4_putsRight_2 ?_
  refine aw_if_eq hX (tgt := 13) dX4_putsRight_5 (by decide) (fun c5 => ?_) (fun c5 => ?_)
  · have b5 := bI_0' c5
    refine aw_vret hX (Nat.le_refl _) (Nat.le_refl _) dX4_putsRight_13 (hq _ _ ?_)
    exact ⟨rfl, hM.cg (by rw [b5]; rfl)⟩
  · have b5 := bI_n0 c5
    refine aw_ald0 hX dX4_putsRight_8 ?_
    refine aw_ild3 hX dX4_putsRight_9 ?_
    refine mm_call hX hM lk_X4_196 rfl (c_X4_puts (fr := fr - 1) hM.1 (by omega) k ek hk c) rfl rfl (Nat.le_of_ble_eq_true rfl) (by omega) (by decide) (Nat.le_refl _) (Nat.le_refl _) dX4_putsRight_10 (fun hp hM => ?_)
    refine aw_vret hX (Nat.le_refl _) (Nat.le_refl _) dX4_putsRight_13 (hq _ _ ?_)
    exact ⟨rfl, hM.cg (by rw [b5]; rfl)⟩
set_option maxHeartbeats 4000000 in
set_option maxRecDepth 100000 in
theorem c_X4_putsEntry {D : Gd} {fr : Nat} {m : Nat} {ad : Nat → Nat} {S : Ms} {h : Hm} (hM : MW m ad S h) (hf : 3 ≤ fr) (k : Nat) (ek : S.2 2 = nI k) (hk : k + 10 ≤ 80) (o e : Nat) (ho : o < 20) (he : e < 6) : MC D fr yX4_putsEntry cX4_putsEntry 5 none m ad h [.int (nI o), .int (nI e)] (none) (mPuts S (wEnt (S.1 0) o e)) := by
  refine AM.of (lv := [some (.ref m), some (.int (nI o)), some (.int (nI e)), none, none]) (by decide +kernel) (Nat.le_of_ble_eq_true rfl) rfl (fun z hX hq _ => ?_)
  have hM := hM.rf
  have hw0 : (wSg (decide ((S.1 0 (mE o e 3)) = 1)) ++ wKd (S.1 0 (mE o e 0)) ++ wWh (S.1 0 (mE o e 0)) (S.1 0 (mE o e 1)) ++ [61]).length ≤ 5 := by
    have h1 := wSg_le (decide ((S.1 0 (mE o e 3)) = 1))
    have h2 := wKd_le (S.1 0 (mE o e 0))
    have h3 := wWh_le (S.1 0 (mE o e 0)) (S.1 0 (mE o e 1))
    simp only [List.length_append, List.length_cons, List.length_nil]
    omega
  have K96 : ∀ (h9 : Hm), MR m ad (mPuts S (wSg (decide ((S.1 0 (mE o e 3)) = 1)) ++ wKd (S.1 0 (mE o e 0)) ++ wWh (S.1 0 (mE o e 0)) (S.1 0 (mE o e 1)) ++ [61])) h h9 → gW z 96 [some (.ref m), some (.int (nI o)), some (.int (nI e)), some (.int (S.1 0 (mE o e 0))), some (.int (S.1 0 (mE o e 2)))] [] h9 0 0 := by
    intro h9 hM
    have g0 := mPuts_2 ek (wSg (decide ((S.1 0 (mE o e 3)) = 1)) ++ wKd (S.1 0 (mE o e 0)) ++ wWh (S.1 0 (mE o e 0)) (S.1 0 (mE o e 1)) ++ [61])
    refine aw_ald0 hX dX4_putsEntry_96 ?_
    refine aw_ild4 hX dX4_putsEntry_97 ?_
    refine aw_iconst (v := 0) hX dX4_putsEntry_99 (by decide) ?_
    refine aw_bipush (v := 114) hX dX4_putsEntry_100 (by decide) ?_
    refine mm_call hX hM lk_X4_203 rfl (c_X4_putsRight (fr := fr - 1) hM.1 (by omega) (k + (wSg (decide ((S.1 0 (mE o e 3)) = 1)) ++ wKd (S.1 0 (mE o e 0)) ++ wWh (S.1 0 (mE o e 0)) (S.1 0 (mE o e 1)) ++ [61]).length) (mPuts_2 ek (wSg (decide ((S.1 0 (mE o e 3)) = 1)) ++ wKd (S.1 0 (mE o e 0)) ++ wWh (S.1 0 (mE o e 0)) (S.1 0 (mE o e 1)) ++ [61])) (by simp only [List.length_append, List.length_cons, List.length_nil] at hw0 ⊢; omega) _ _ _) rfl rfl (Nat.le_of_ble_eq_true rfl) (by omega) (by decide) (Nat.le_refl _) (Nat.le_refl _) dX4_putsEntry_102 (fun hp hM => ?_)
    replace hM := hM.cg (mPuts_app S (wSg (decide ((S.1 0 (mE o e 3)) = 1)) ++ wKd (S.1 0 (mE o e 0)) ++ wWh (S.1 0 (mE o e 0)) (S.1 0 (mE o e 1)) ++ [61]) (wIf (mHas (S.1 0 (mE o e 2)) 0) 114))
    refine aw_ald0 hX dX4_putsEntry_105 ?_
    refine aw_ild4 hX dX4_putsEntry_106 ?_
    refine aw_iconst (v := 1) hX dX4_putsEntry_108 (by decide) ?_
    refine aw_bipush (v := 119) hX dX4_putsEntry_109 (by decide) ?_
    refine mm_call hX hM lk_X4_203 rfl (c_X4_putsRight (fr := fr - 1) hM.1 (by omega) (k + ((wSg (decide ((S.1 0 (mE o e 3)) = 1)) ++ wKd (S.1 0 (mE o e 0)) ++ wWh (S.1 0 (mE o e 0)) (S.1 0 (mE o e 1)) ++ [61]) ++ wIf (mHas (S.1 0 (mE o e 2)) 0) 114).length) (mPuts_2 ek ((wSg (decide ((S.1 0 (mE o e 3)) = 1)) ++ wKd (S.1 0 (mE o e 0)) ++ wWh (S.1 0 (mE o e 0)) (S.1 0 (mE o e 1)) ++ [61]) ++ wIf (mHas (S.1 0 (mE o e 2)) 0) 114)) (by have := wIf_le (mHas (S.1 0 (mE o e 2)) 0) 114; simp only [List.length_append, List.length_cons, List.length_nil] at hw0 ⊢; omega) _ _ _) rfl rfl (Nat.le_of_ble_eq_true rfl) (by omega) (by decide) (Nat.le_refl _) (Nat.le_refl _) dX4_putsEntry_111 (fun hp hM => ?_)
    replace hM := hM.cg (mPuts_app S ((wSg (decide ((S.1 0 (mE o e 3)) = 1)) ++ wKd (S.1 0 (mE o e 0)) ++ wWh (S.1 0 (mE o e 0)) (S.1 0 (mE o e 1)) ++ [61]) ++ wIf (mHas (S.1 0 (mE o e 2)) 0) 114) (wIf (mHas (S.1 0 (mE o e 2)) 1) 119))
    refine aw_ald0 hX dX4_putsEntry_114 ?_
    refine aw_ild4 hX dX4_putsEntry_115 ?_
    refine aw_iconst (v := 2) hX dX4_putsEntry_117 (by decide) ?_
    refine aw_bipush (v := 120) hX dX4_putsEntry_118 (by decide) ?_
    refine mm_call hX hM lk_X4_203 rfl (c_X4_putsRight (fr := fr - 1) hM.1 (by omega) (k + (((wSg (decide ((S.1 0 (mE o e 3)) = 1)) ++ wKd (S.1 0 (mE o e 0)) ++ wWh (S.1 0 (mE o e 0)) (S.1 0 (mE o e 1)) ++ [61]) ++ wIf (mHas (S.1 0 (mE o e 2)) 0) 114) ++ wIf (mHas (S.1 0 (mE o e 2)) 1) 119).length) (mPuts_2 ek (((wSg (decide ((S.1 0 (mE o e 3)) = 1)) ++ wKd (S.1 0 (mE o e 0)) ++ wWh (S.1 0 (mE o e 0)) (S.1 0 (mE o e 1)) ++ [61]) ++ wIf (mHas (S.1 0 (mE o e 2)) 0) 114) ++ wIf (mHas (S.1 0 (mE o e 2)) 1) 119)) (by have := wIf_le (mHas (S.1 0 (mE o e 2)) 0) 114; have := wIf_le (mHas (S.1 0 (mE o e 2)) 1) 119; simp only [List.length_append, List.length_cons, List.length_nil] at hw0 ⊢; omega) _ _ _) rfl rfl (Nat.le_of_ble_eq_true rfl) (by omega) (by decide) (Nat.le_refl _) (Nat.le_refl _) dX4_putsEntry_120 (fun hp hM => ?_)
    replace hM := hM.cg (mPuts_app S (((wSg (decide ((S.1 0 (mE o e 3)) = 1)) ++ wKd (S.1 0 (mE o e 0)) ++ wWh (S.1 0 (mE o e 0)) (S.1 0 (mE o e 1)) ++ [61]) ++ wIf (mHas (S.1 0 (mE o e 2)) 0) 114) ++ wIf (mHas (S.1 0 (mE o e 2)) 1) 119) (wIf (mHas (S.1 0 (mE o e 2)) 2) 120))
    refine aw_ald0 hX dX4_putsEntry_123 ?_
    refine aw_ild4 hX dX4_putsEntry_124 ?_
    refine aw_iconst (v := 3) hX dX4_putsEntry_126 (by decide) ?_
    refine aw_bipush (v := 109) hX dX4_putsEntry_127 (by decide) ?_
    refine mm_call hX hM lk_X4_203 rfl (c_X4_putsRight (fr := fr - 1) hM.1 (by omega) (k + ((((wSg (decide ((S.1 0 (mE o e 3)) = 1)) ++ wKd (S.1 0 (mE o e 0)) ++ wWh (S.1 0 (mE o e 0)) (S.1 0 (mE o e 1)) ++ [61]) ++ wIf (mHas (S.1 0 (mE o e 2)) 0) 114) ++ wIf (mHas (S.1 0 (mE o e 2)) 1) 119) ++ wIf (mHas (S.1 0 (mE o e 2)) 2) 120).length) (mPuts_2 ek ((((wSg (decide ((S.1 0 (mE o e 3)) = 1)) ++ wKd (S.1 0 (mE o e 0)) ++ wWh (S.1 0 (mE o e 0)) (S.1 0 (mE o e 1)) ++ [61]) ++ wIf (mHas (S.1 0 (mE o e 2)) 0) 114) ++ wIf (mHas (S.1 0 (mE o e 2)) 1) 119) ++ wIf (mHas (S.1 0 (mE o e 2)) 2) 120)) (by have := wIf_le (mHas (S.1 0 (mE o e 2)) 0) 114; have := wIf_le (mHas (S.1 0 (mE o e 2)) 1) 119; have := wIf_le (mHas (S.1 0 (mE o e 2)) 2) 120; simp only [List.length_append, List.length_cons, List.length_nil] at hw0 ⊢; omega) _ _ _) rfl rfl (Nat.le_of_ble_eq_true rfl) (by omega) (by decide) (Nat.le_refl _) (Nat.le_refl _) dX4_putsEntry_129 (fun hp hM => ?_)
    replace hM := hM.cg (mPuts_app S ((((wSg (decide ((S.1 0 (mE o e 3)) = 1)) ++ wKd (S.1 0 (mE o e 0)) ++ wWh (S.1 0 (mE o e 0)) (S.1 0 (mE o e 1)) ++ [61]) ++ wIf (mHas (S.1 0 (mE o e 2)) 0) 114) ++ wIf (mHas (S.1 0 (mE o e 2)) 1) 119) ++ wIf (mHas (S.1 0 (mE o e 2)) 2) 120) (wIf (mHas (S.1 0 (mE o e 2)) 3) 109))
    refine aw_ald0 hX dX4_putsEntry_132 ?_
    refine aw_ild1 hX dX4_putsEntry_133 ?_
    refine aw_ild2 hX dX4_putsEntry_134 ?_
    refine aw_iconst (v := 4) hX dX4_putsEntry_135 (by decide) ?_
    refine mm_call hX hM lk_X4_122 rfl (c_X4_ofEntry (fr := fr - 1) hM.1 (by omega) o e 4 ho he (by decide)) rfl rfl (Nat.le_of_ble_eq_true rfl) (by omega) (by decide) (Nat.le_refl _) (Nat.le_refl _) dX4_putsEntry_136 (fun hp hM => ?_)
    rw [mPuts_0]
    refine aw_iconst (v := 1) hX dX4_putsEntry_139 (by decide) ?_
    refine aw_icmp_ne hX (tgt := 149) dX4_putsEntry_140 (by decide) (fun c140 => ?_) (fun c140 => ?_)
    · refine aw_vret hX (Nat.le_refl _) (Nat.le_refl _) dX4_putsEntry_149 (hq _ _ ?_)
      refine ⟨rfl, hM.cg ?_⟩
      unfold wEnt
      rw [decide_eq_false c140]
      exact congrArg (mPuts S) (List.append_nil _).symm
    · refine aw_ald0 hX dX4_putsEntry_143 ?_
      refine aw_bipush (v := 42) hX dX4_putsEntry_144 (by decide) ?_
      refine mm_call hX hM lk_X4_196 rfl (c_X4_puts (fr := fr - 1) hM.1 (by omega) (k + (((((wSg (decide ((S.1 0 (mE o e 3)) = 1)) ++ wKd (S.1 0 (mE o e 0)) ++ wWh (S.1 0 (mE o e 0)) (S.1 0 (mE o e 1)) ++ [61]) ++ wIf (mHas (S.1 0 (mE o e 2)) 0) 114) ++ wIf (mHas (S.1 0 (mE o e 2)) 1) 119) ++ wIf (mHas (S.1 0 (mE o e 2)) 2) 120) ++ wIf (mHas (S.1 0 (mE o e 2)) 3) 109).length) (mPuts_2 ek (((((wSg (decide ((S.1 0 (mE o e 3)) = 1)) ++ wKd (S.1 0 (mE o e 0)) ++ wWh (S.1 0 (mE o e 0)) (S.1 0 (mE o e 1)) ++ [61]) ++ wIf (mHas (S.1 0 (mE o e 2)) 0) 114) ++ wIf (mHas (S.1 0 (mE o e 2)) 1) 119) ++ wIf (mHas (S.1 0 (mE o e 2)) 2) 120) ++ wIf (mHas (S.1 0 (mE o e 2)) 3) 109)) (by have := wIf_le (mHas (S.1 0 (mE o e 2)) 0) 114; have := wIf_le (mHas (S.1 0 (mE o e 2)) 1) 119; have := wIf_le (mHas (S.1 0 (mE o e 2)) 2) 120; have := wIf_le (mHas (S.1 0 (mE o e 2)) 3) 109; simp only [List.length_append, List.length_cons, List.length_nil] at hw0 ⊢; omega) _) rfl rfl (Nat.le_of_ble_eq_true rfl) (by omega) (by decide) (Nat.le_refl _) (Nat.le_refl _) dX4_putsEntry_146 (fun hp hM => ?_)
      refine aw_vret hX (Nat.le_refl _) (Nat.le_refl _) dX4_putsEntry_149 (hq _ _ ?_)
      refine ⟨rfl, hM.cg ?_⟩
      rw [mPuts_app]
      unfold wEnt
      rw [decide_eq_true c140]
      rfl
  refine aw_ald0 hX dX4_putsEntry_0 ?_
  refine aw_ild1 hX dX4_putsEntry_1 ?_
  refine aw_ild2 hX dX4_putsEntry_2 ?_
  refine aw_iconst (v := 0) hX dX4_putsEntry_3 (by decide) ?_
  refine mm_call hX hM lk_X4_122 rfl (c_X4_ofEntry (fr := fr - 1) hM.1 (by omega) o e 0 ho he (by decide)) rfl rfl (Nat.le_of_ble_eq_true rfl) (by omega) (by decide) (Nat.le_refl _) (Nat.le_refl _) dX4_putsEntry_4 (fun hp hM => ?_)
  refine aw_ist3 hX dX4_putsEntry_7 (by decide) rfl ?_
  refine aw_ald0 hX dX4_putsEntry_8 ?_
  refine aw_ild1 hX dX4_putsEntry_9 ?_
  refine aw_ild2 hX dX4_putsEntry_10 ?_
  refine aw_iconst (v := 2) hX dX4_putsEntry_11 (by decide) ?_
  refine mm_call hX hM lk_X4_122 rfl (c_X4_ofEntry (fr := fr - 1) hM.1 (by omega) o e 2 ho he (by decide)) rfl rfl (Nat.le_of_ble_eq_true rfl) (by omega) (by decide) (Nat.le_refl _) (Nat.le_refl _) dX4_putsEntry_12 (fun hp hM => ?_)
  refine aw_ist4 hX dX4_putsEntry_15 (by decide) rfl ?_
  refine aw_ald0 hX dX4_putsEntry_17 ?_
  refine aw_ald0 hX dX4_putsEntry_18 ?_
  refine aw_ild1 hX dX4_putsEntry_19 ?_
  refine aw_ild2 hX dX4_putsEntry_20 ?_
  refine aw_iconst (v := 3) hX dX4_putsEntry_21 (by decide) ?_
  refine mm_call hX hM lk_X4_122 rfl (c_X4_ofEntry (fr := fr - 1) hM.1 (by omega) o e 3 ho he (by decide)) rfl rfl (Nat.le_of_ble_eq_true rfl) (by omega) (by decide) (Nat.le_refl _) (Nat.le_refl _) dX4_putsEntry_22 (fun hp hM => ?_)
  refine aw_iconst (v := 1) hX dX4_putsEntry_25 (by decide) ?_
  refine aw_icmp_ne hX (tgt := 34) dX4_putsEntry_26 (by decide) (fun c26 => ?_) (fun c26 => ?_)
  · refine aw_bipush (v := 45) hX dX4_putsEntry_34 (by decide) ?_
    refine mm_call hX hM lk_X4_196 rfl (c_X4_puts (fr := fr - 1) hM.1 (by omega) k ek (by omega) _) rfl rfl (Nat.le_of_ble_eq_true rfl) (by omega) (by decide) (Nat.le_refl _) (Nat.le_refl _) dX4_putsEntry_36 (fun hp hM => ?_)
    refine aw_ald0 hX dX4_putsEntry_39 ?_
    refine aw_ild3 hX dX4_putsEntry_40 ?_
    refine aw_if_ne hX (tgt := 49) dX4_putsEntry_41 (by decide) (fun c41 => ?_) (fun c41 => ?_)
    · refine aw_ild3 hX dX4_putsEntry_49 ?_
      refine aw_iconst (v := 1) hX dX4_putsEntry_50 (by decide) ?_
      refine aw_icmp_ne hX (tgt := 59) dX4_putsEntry_51 (by decide) (fun c51 => ?_) (fun c51 => ?_)
      · refine aw_ild3 hX dX4_putsEntry_59 ?_
        refine aw_iconst (v := 2) hX dX4_putsEntry_60 (by decide) ?_
        refine aw_icmp_ne hX (tgt := 69) dX4_putsEntry_61 (by decide) (fun c61 => ?_) (fun c61 => ?_)
        · refine aw_bipush (v := 97) hX dX4_putsEntry_69 (by decide) ?_
          refine mm_call hX hM lk_X4_196 rfl (c_X4_puts (fr := fr - 1) hM.1 (by omega) (k + 1) (mPuts_2 ek [_]) (by omega) _) rfl rfl (Nat.le_of_ble_eq_true rfl) (by omega) (by decide) (Nat.le_refl _) (Nat.le_refl _) dX4_putsEntry_71 (fun hp hM => ?_)
          refine aw_ild3 hX dX4_putsEntry_74 ?_
          refine aw_iconst (v := 2) hX dX4_putsEntry_75 (by decide) ?_
          refine aw_icmp_ge hX (tgt := 90) dX4_putsEntry_76 (by decide) (fun c76 => ?_) (fun c76 => ?_)
          · refine aw_ald0 hX dX4_putsEntry_90 ?_
            refine aw_bipush (v := 61) hX dX4_putsEntry_91 (by decide) ?_
            refine mm_call hX hM lk_X4_196 rfl (c_X4_puts (fr := fr - 1) hM.1 (by omega) (k + 2) (mPuts_2 (mPuts_2 ek [_]) [_]) (by omega) _) rfl rfl (Nat.le_of_ble_eq_true rfl) (by omega) (by decide) (Nat.le_refl _) (Nat.le_refl _) dX4_putsEntry_93 (fun hp hM => ?_)
            have hM := hM.cg (S' := mPuts S (wSg (decide ((S.1 0 (mE o e 3)) = 1)) ++ wKd (S.1 0 (mE o e 0)) ++ wWh (S.1 0 (mE o e 0)) (S.1 0 (mE o e 1)) ++ [61])) (by
              repeat rw [mPuts_app]
              refine congrArg (mPuts S) ?_
              first | rw [decide_eq_true c26] | rw [decide_eq_false c26]
              unfold wKd wWh
              first | (rw [if_pos c41]) | (rw [if_neg c41, if_pos c51]) | (rw [if_neg c41, if_neg c51, if_pos c61]) | (rw [if_neg c41, if_neg c51, if_neg c61])
              first | rw [if_pos (Int32.not_le.mp c76)] | rw [if_neg (Int32.not_lt.mpr c76)]
              rfl)
            exact K96 _ hM
          · refine aw_ald0 hX dX4_putsEntry_79 ?_
            refine aw_ald0 hX dX4_putsEntry_80 ?_
            refine aw_ild1 hX dX4_putsEntry_81 ?_
            refine aw_ild2 hX dX4_putsEntry_82 ?_
            refine aw_iconst (v := 1) hX dX4_putsEntry_83 (by decide) ?_
            refine mm_call hX hM lk_X4_122 rfl (c_X4_ofEntry (fr := fr - 1) hM.1 (by omega) o e 1 ho he (by decide)) rfl rfl (Nat.le_of_ble_eq_true rfl) (by omega) (by decide) (Nat.le_refl _) (Nat.le_refl _) dX4_putsEntry_84 (fun hp hM => ?_)
            refine mm_call hX hM lk_X4_200 rfl (c_X4_putsNumber (fr := fr - 1) hM.1 (by omega) (k + 2) (mPuts_2 (mPuts_2 ek [_]) [_]) (by omega) _) rfl rfl (Nat.le_of_ble_eq_true rfl) (by omega) (by decide) (Nat.le_refl _) (Nat.le_refl _) dX4_putsEntry_87 (fun hp hM => ?_)
            refine aw_ald0 hX dX4_putsEntry_90 ?_
            refine aw_bipush (v := 61) hX dX4_putsEntry_91 (by decide) ?_
            refine mm_call hX hM lk_X4_196 rfl (c_X4_puts (fr := fr - 1) hM.1 (by omega) (k + 2 + (wNum (S.1 0 (mE o e 1))).length) (mPuts_2 (mPuts_2 (mPuts_2 ek [_]) [_]) (wNum (S.1 0 (mE o e 1)))) (by have := wNum_le (S.1 0 (mE o e 1)); omega) _) rfl rfl (Nat.le_of_ble_eq_true rfl) (by omega) (by decide) (Nat.le_refl _) (Nat.le_refl _) dX4_putsEntry_93 (fun hp hM => ?_)
            have hM := hM.cg (S' := mPuts S (wSg (decide ((S.1 0 (mE o e 3)) = 1)) ++ wKd (S.1 0 (mE o e 0)) ++ wWh (S.1 0 (mE o e 0)) (S.1 0 (mE o e 1)) ++ [61])) (by
              repeat rw [mPuts_app]
              refine congrArg (mPuts S) ?_
              first | rw [decide_eq_true c26] | rw [decide_eq_false c26]
              unfold wKd wWh
              first | (rw [if_pos c41]) | (rw [if_neg c41, if_pos c51]) | (rw [if_neg c41, if_neg c51, if_pos c61]) | (rw [if_neg c41, if_neg c51, if_neg c61])
              first | rw [if_pos (Int32.not_le.mp c76)] | rw [if_neg (Int32.not_lt.mpr c76)]
              rfl)
            exact K96 _ hM
        · refine aw_bipush (v := 111) hX dX4_putsEntry_64 (by decide) ?_
          refine aw_goto hX (tgt := 71) dX4_putsEntry_66 (by decide) ?_
          refine mm_call hX hM lk_X4_196 rfl (c_X4_puts (fr := fr - 1) hM.1 (by omega) (k + 1) (mPuts_2 ek [_]) (by omega) _) rfl rfl (Nat.le_of_ble_eq_true rfl) (by omega) (by decide) (Nat.le_refl _) (Nat.le_refl _) dX4_putsEntry_71 (fun hp hM => ?_)
          refine aw_ild3 hX dX4_putsEntry_74 ?_
          refine aw_iconst (v := 2) hX dX4_putsEntry_75 (by decide) ?_
          refine aw_icmp_ge hX (tgt := 90) dX4_putsEntry_76 (by decide) (fun c76 => ?_) (fun c76 => ?_)
          · refine aw_ald0 hX dX4_putsEntry_90 ?_
            refine aw_bipush (v := 61) hX dX4_putsEntry_91 (by decide) ?_
            refine mm_call hX hM lk_X4_196 rfl (c_X4_puts (fr := fr - 1) hM.1 (by omega) (k + 2) (mPuts_2 (mPuts_2 ek [_]) [_]) (by omega) _) rfl rfl (Nat.le_of_ble_eq_true rfl) (by omega) (by decide) (Nat.le_refl _) (Nat.le_refl _) dX4_putsEntry_93 (fun hp hM => ?_)
            have hM := hM.cg (S' := mPuts S (wSg (decide ((S.1 0 (mE o e 3)) = 1)) ++ wKd (S.1 0 (mE o e 0)) ++ wWh (S.1 0 (mE o e 0)) (S.1 0 (mE o e 1)) ++ [61])) (by
              repeat rw [mPuts_app]
              refine congrArg (mPuts S) ?_
              first | rw [decide_eq_true c26] | rw [decide_eq_false c26]
              unfold wKd wWh
              first | (rw [if_pos c41]) | (rw [if_neg c41, if_pos c51]) | (rw [if_neg c41, if_neg c51, if_pos c61]) | (rw [if_neg c41, if_neg c51, if_neg c61])
              first | rw [if_pos (Int32.not_le.mp c76)] | rw [if_neg (Int32.not_lt.mpr c76)]
              rfl)
            exact K96 _ hM
          · refine aw_ald0 hX dX4_putsEntry_79 ?_
            refine aw_ald0 hX dX4_putsEntry_80 ?_
            refine aw_ild1 hX dX4_putsEntry_81 ?_
            refine aw_ild2 hX dX4_putsEntry_82 ?_
            refine aw_iconst (v := 1) hX dX4_putsEntry_83 (by decide) ?_
            refine mm_call hX hM lk_X4_122 rfl (c_X4_ofEntry (fr := fr - 1) hM.1 (by omega) o e 1 ho he (by decide)) rfl rfl (Nat.le_of_ble_eq_true rfl) (by omega) (by decide) (Nat.le_refl _) (Nat.le_refl _) dX4_putsEntry_84 (fun hp hM => ?_)
            refine mm_call hX hM lk_X4_200 rfl (c_X4_putsNumber (fr := fr - 1) hM.1 (by omega) (k + 2) (mPuts_2 (mPuts_2 ek [_]) [_]) (by omega) _) rfl rfl (Nat.le_of_ble_eq_true rfl) (by omega) (by decide) (Nat.le_refl _) (Nat.le_refl _) dX4_putsEntry_87 (fun hp hM => ?_)
            refine aw_ald0 hX dX4_putsEntry_90 ?_
            refine aw_bipush (v := 61) hX dX4_putsEntry_91 (by decide) ?_
            refine mm_call hX hM lk_X4_196 rfl (c_X4_puts (fr := fr - 1) hM.1 (by omega) (k + 2 + (wNum (S.1 0 (mE o e 1))).length) (mPuts_2 (mPuts_2 (mPuts_2 ek [_]) [_]) (wNum (S.1 0 (mE o e 1)))) (by have := wNum_le (S.1 0 (mE o e 1)); omega) _) rfl rfl (Nat.le_of_ble_eq_true rfl) (by omega) (by decide) (Nat.le_refl _) (Nat.le_refl _) dX4_putsEntry_93 (fun hp hM => ?_)
            have hM := hM.cg (S' := mPuts S (wSg (decide ((S.1 0 (mE o e 3)) = 1)) ++ wKd (S.1 0 (mE o e 0)) ++ wWh (S.1 0 (mE o e 0)) (S.1 0 (mE o e 1)) ++ [61])) (by
              repeat rw [mPuts_app]
              refine congrArg (mPuts S) ?_
              first | rw [decide_eq_true c26] | rw [decide_eq_false c26]
              unfold wKd wWh
              first | (rw [if_pos c41]) | (rw [if_neg c41, if_pos c51]) | (rw [if_neg c41, if_neg c51, if_pos c61]) | (rw [if_neg c41, if_neg c51, if_neg c61])
              first | rw [if_pos (Int32.not_le.mp c76)] | rw [if_neg (Int32.not_lt.mpr c76)]
              rfl)
            exact K96 _ hM
      · refine aw_bipush (v := 103) hX dX4_putsEntry_54 (by decide) ?_
        refine aw_goto hX (tgt := 71) dX4_putsEntry_56 (by decide) ?_
        refine mm_call hX hM lk_X4_196 rfl (c_X4_puts (fr := fr - 1) hM.1 (by omega) (k + 1) (mPuts_2 ek [_]) (by omega) _) rfl rfl (Nat.le_of_ble_eq_true rfl) (by omega) (by decide) (Nat.le_refl _) (Nat.le_refl _) dX4_putsEntry_71 (fun hp hM => ?_)
        refine aw_ild3 hX dX4_putsEntry_74 ?_
        refine aw_iconst (v := 2) hX dX4_putsEntry_75 (by decide) ?_
        refine aw_icmp_ge hX (tgt := 90) dX4_putsEntry_76 (by decide) (fun c76 => ?_) (fun c76 => ?_)
        · refine aw_ald0 hX dX4_putsEntry_90 ?_
          refine aw_bipush (v := 61) hX dX4_putsEntry_91 (by decide) ?_
          refine mm_call hX hM lk_X4_196 rfl (c_X4_puts (fr := fr - 1) hM.1 (by omega) (k + 2) (mPuts_2 (mPuts_2 ek [_]) [_]) (by omega) _) rfl rfl (Nat.le_of_ble_eq_true rfl) (by omega) (by decide) (Nat.le_refl _) (Nat.le_refl _) dX4_putsEntry_93 (fun hp hM => ?_)
          have hM := hM.cg (S' := mPuts S (wSg (decide ((S.1 0 (mE o e 3)) = 1)) ++ wKd (S.1 0 (mE o e 0)) ++ wWh (S.1 0 (mE o e 0)) (S.1 0 (mE o e 1)) ++ [61])) (by
            repeat rw [mPuts_app]
            refine congrArg (mPuts S) ?_
            first | rw [decide_eq_true c26] | rw [decide_eq_false c26]
            unfold wKd wWh
            first | (rw [if_pos c41]) | (rw [if_neg c41, if_pos c51]) | (rw [if_neg c41, if_neg c51, if_pos c61]) | (rw [if_neg c41, if_neg c51, if_neg c61])
            first | rw [if_pos (Int32.not_le.mp c76)] | rw [if_neg (Int32.not_lt.mpr c76)]
            rfl)
          exact K96 _ hM
        · refine aw_ald0 hX dX4_putsEntry_79 ?_
          refine aw_ald0 hX dX4_putsEntry_80 ?_
          refine aw_ild1 hX dX4_putsEntry_81 ?_
          refine aw_ild2 hX dX4_putsEntry_82 ?_
          refine aw_iconst (v := 1) hX dX4_putsEntry_83 (by decide) ?_
          refine mm_call hX hM lk_X4_122 rfl (c_X4_ofEntry (fr := fr - 1) hM.1 (by omega) o e 1 ho he (by decide)) rfl rfl (Nat.le_of_ble_eq_true rfl) (by omega) (by decide) (Nat.le_refl _) (Nat.le_refl _) dX4_putsEntry_84 (fun hp hM => ?_)
          refine mm_call hX hM lk_X4_200 rfl (c_X4_putsNumber (fr := fr - 1) hM.1 (by omega) (k + 2) (mPuts_2 (mPuts_2 ek [_]) [_]) (by omega) _) rfl rfl (Nat.le_of_ble_eq_true rfl) (by omega) (by decide) (Nat.le_refl _) (Nat.le_refl _) dX4_putsEntry_87 (fun hp hM => ?_)
          refine aw_ald0 hX dX4_putsEntry_90 ?_
          refine aw_bipush (v := 61) hX dX4_putsEntry_91 (by decide) ?_
          refine mm_call hX hM lk_X4_196 rfl (c_X4_puts (fr := fr - 1) hM.1 (by omega) (k + 2 + (wNum (S.1 0 (mE o e 1))).length) (mPuts_2 (mPuts_2 (mPuts_2 ek [_]) [_]) (wNum (S.1 0 (mE o e 1)))) (by have := wNum_le (S.1 0 (mE o e 1)); omega) _) rfl rfl (Nat.le_of_ble_eq_true rfl) (by omega) (by decide) (Nat.le_refl _) (Nat.le_refl _) dX4_putsEntry_93 (fun hp hM => ?_)
          have hM := hM.cg (S' := mPuts S (wSg (decide ((S.1 0 (mE o e 3)) = 1)) ++ wKd (S.1 0 (mE o e 0)) ++ wWh (S.1 0 (mE o e 0)) (S.1 0 (mE o e 1)) ++ [61])) (by
            repeat rw [mPuts_app]
            refine congrArg (mPuts S) ?_
            first | rw [decide_eq_true c26] | rw [decide_eq_false c26]
            unfold wKd wWh
            first | (rw [if_pos c41]) | (rw [if_neg c41, if_pos c51]) | (rw [if_neg c41, if_neg c51, if_pos c61]) | (rw [if_neg c41, if_neg c51, if_neg c61])
            first | rw [if_pos (Int32.not_le.mp c76)] | rw [if_neg (Int32.not_lt.mpr c76)]
            rfl)
          exact K96 _ hM
    · refine aw_bipush (v := 117) hX dX4_putsEntry_44 (by decide) ?_
      refine aw_goto hX (tgt := 71) dX4_putsEntry_46 (by decide) ?_
      refine mm_call hX hM lk_X4_196 rfl (c_X4_puts (fr := fr - 1) hM.1 (by omega) (k + 1) (mPuts_2 ek [_]) (by omega) _) rfl rfl (Nat.le_of_ble_eq_true rfl) (by omega) (by decide) (Nat.le_refl _) (Nat.le_refl _) dX4_putsEntry_71 (fun hp hM => ?_)
      refine aw_ild3 hX dX4_putsEntry_74 ?_
      refine aw_iconst (v := 2) hX dX4_putsEntry_75 (by decide) ?_
      refine aw_icmp_ge hX (tgt := 90) dX4_putsEntry_76 (by decide) (fun c76 => ?_) (fun c76 => ?_)
      · refine aw_ald0 hX dX4_putsEntry_90 ?_
        refine aw_bipush (v := 61) hX dX4_putsEntry_91 (by decide) ?_
        refine mm_call hX hM lk_X4_196 rfl (c_X4_puts (fr := fr - 1) hM.1 (by omega) (k + 2) (mPuts_2 (mPuts_2 ek [_]) [_]) (by omega) _) rfl rfl (Nat.le_of_ble_eq_true rfl) (by omega) (by decide) (Nat.le_refl _) (Nat.le_refl _) dX4_putsEntry_93 (fun hp hM => ?_)
        have hM := hM.cg (S' := mPuts S (wSg (decide ((S.1 0 (mE o e 3)) = 1)) ++ wKd (S.1 0 (mE o e 0)) ++ wWh (S.1 0 (mE o e 0)) (S.1 0 (mE o e 1)) ++ [61])) (by
          repeat rw [mPuts_app]
          refine congrArg (mPuts S) ?_
          first | rw [decide_eq_true c26] | rw [decide_eq_false c26]
          unfold wKd wWh
          first | (rw [if_pos c41]) | (rw [if_neg c41, if_pos c51]) | (rw [if_neg c41, if_neg c51, if_pos c61]) | (rw [if_neg c41, if_neg c51, if_neg c61])
          first | rw [if_pos (Int32.not_le.mp c76)] | rw [if_neg (Int32.not_lt.mpr c76)]
          rfl)
        exact K96 _ hM
      · refine aw_ald0 hX dX4_putsEntry_79 ?_
        refine aw_ald0 hX dX4_putsEntry_80 ?_
        refine aw_ild1 hX dX4_putsEntry_81 ?_
        refine aw_ild2 hX dX4_putsEntry_82 ?_
        refine aw_iconst (v := 1) hX dX4_putsEntry_83 (by decide) ?_
        refine mm_call hX hM lk_X4_122 rfl (c_X4_ofEntry (fr := fr - 1) hM.1 (by omega) o e 1 ho he (by decide)) rfl rfl (Nat.le_of_ble_eq_true rfl) (by omega) (by decide) (Nat.le_refl _) (Nat.le_refl _) dX4_putsEntry_84 (fun hp hM => ?_)
        refine mm_call hX hM lk_X4_200 rfl (c_X4_putsNumber (fr := fr - 1) hM.1 (by omega) (k + 2) (mPuts_2 (mPuts_2 ek [_]) [_]) (by omega) _) rfl rfl (Nat.le_of_ble_eq_true rfl) (by omega) (by decide) (Nat.le_refl _) (Nat.le_refl _) dX4_putsEntry_87 (fun hp hM => ?_)
        refine aw_ald0 hX dX4_putsEntry_90 ?_
        refine aw_bipush (v := 61) hX dX4_putsEntry_91 (by decide) ?_
        refine mm_call hX hM lk_X4_196 rfl (c_X4_puts (fr := fr - 1) hM.1 (by omega) (k + 2 + (wNum (S.1 0 (mE o e 1))).length) (mPuts_2 (mPuts_2 (mPuts_2 ek [_]) [_]) (wNum (S.1 0 (mE o e 1)))) (by have := wNum_le (S.1 0 (mE o e 1)); omega) _) rfl rfl (Nat.le_of_ble_eq_true rfl) (by omega) (by decide) (Nat.le_refl _) (Nat.le_refl _) dX4_putsEntry_93 (fun hp hM => ?_)
        have hM := hM.cg (S' := mPuts S (wSg (decide ((S.1 0 (mE o e 3)) = 1)) ++ wKd (S.1 0 (mE o e 0)) ++ wWh (S.1 0 (mE o e 0)) (S.1 0 (mE o e 1)) ++ [61])) (by
          repeat rw [mPuts_app]
          refine congrArg (mPuts S) ?_
          first | rw [decide_eq_true c26] | rw [decide_eq_false c26]
          unfold wKd wWh
          first | (rw [if_pos c41]) | (rw [if_neg c41, if_pos c51]) | (rw [if_neg c41, if_neg c51, if_pos c61]) | (rw [if_neg c41, if_neg c51, if_neg c61])
          first | rw [if_pos (Int32.not_le.mp c76)] | rw [if_neg (Int32.not_lt.mpr c76)]
          rfl)
        exact K96 _ hM
  · refine aw_bipush (v := 43) hX dX4_putsEntry_29 (by decide) ?_
    refine aw_goto hX (tgt := 36) dX4_putsEntry_31 (by decide) ?_
    refine mm_call hX hM lk_X4_196 rfl (c_X4_puts (fr := fr - 1) hM.1 (by omega) k ek (by omega) _) rfl rfl (Nat.le_of_ble_eq_true rfl) (by omega) (by decide) (Nat.le_refl _) (Nat.le_refl _) dX4_putsEntry_36 (fun hp hM => ?_)
    refine aw_ald0 hX dX4_putsEntry_39 ?_
    refine aw_ild3 hX dX4_putsEntry_40 ?_
    refine aw_if_ne hX (tgt := 49) dX4_putsEntry_41 (by decide) (fun c41 => ?_) (fun c41 => ?_)
    · refine aw_ild3 hX dX4_putsEntry_49 ?_
      refine aw_iconst (v := 1) hX dX4_putsEntry_50 (by decide) ?_
      refine aw_icmp_ne hX (tgt := 59) dX4_putsEntry_51 (by decide) (fun c51 => ?_) (fun c51 => ?_)
      · refine aw_ild3 hX dX4_putsEntry_59 ?_
        refine aw_iconst (v := 2) hX dX4_putsEntry_60 (by decide) ?_
        refine aw_icmp_ne hX (tgt := 69) dX4_putsEntry_61 (by decide) (fun c61 => ?_) (fun c61 => ?_)
        · refine aw_bipush (v := 97) hX dX4_putsEntry_69 (by decide) ?_
          refine mm_call hX hM lk_X4_196 rfl (c_X4_puts (fr := fr - 1) hM.1 (by omega) (k + 1) (mPuts_2 ek [_]) (by omega) _) rfl rfl (Nat.le_of_ble_eq_true rfl) (by omega) (by decide) (Nat.le_refl _) (Nat.le_refl _) dX4_putsEntry_71 (fun hp hM => ?_)
          refine aw_ild3 hX dX4_putsEntry_74 ?_
          refine aw_iconst (v := 2) hX dX4_putsEntry_75 (by decide) ?_
          refine aw_icmp_ge hX (tgt := 90) dX4_putsEntry_76 (by decide) (fun c76 => ?_) (fun c76 => ?_)
          · refine aw_ald0 hX dX4_putsEntry_90 ?_
            refine aw_bipush (v := 61) hX dX4_putsEntry_91 (by decide) ?_
            refine mm_call hX hM lk_X4_196 rfl (c_X4_puts (fr := fr - 1) hM.1 (by omega) (k + 2) (mPuts_2 (mPuts_2 ek [_]) [_]) (by omega) _) rfl rfl (Nat.le_of_ble_eq_true rfl) (by omega) (by decide) (Nat.le_refl _) (Nat.le_refl _) dX4_putsEntry_93 (fun hp hM => ?_)
            have hM := hM.cg (S' := mPuts S (wSg (decide ((S.1 0 (mE o e 3)) = 1)) ++ wKd (S.1 0 (mE o e 0)) ++ wWh (S.1 0 (mE o e 0)) (S.1 0 (mE o e 1)) ++ [61])) (by
              repeat rw [mPuts_app]
              refine congrArg (mPuts S) ?_
              first | rw [decide_eq_true c26] | rw [decide_eq_false c26]
              unfold wKd wWh
              first | (rw [if_pos c41]) | (rw [if_neg c41, if_pos c51]) | (rw [if_neg c41, if_neg c51, if_pos c61]) | (rw [if_neg c41, if_neg c51, if_neg c61])
              first | rw [if_pos (Int32.not_le.mp c76)] | rw [if_neg (Int32.not_lt.mpr c76)]
              rfl)
            exact K96 _ hM
          · refine aw_ald0 hX dX4_putsEntry_79 ?_
            refine aw_ald0 hX dX4_putsEntry_80 ?_
            refine aw_ild1 hX dX4_putsEntry_81 ?_
            refine aw_ild2 hX dX4_putsEntry_82 ?_
            refine aw_iconst (v := 1) hX dX4_putsEntry_83 (by decide) ?_
            refine mm_call hX hM lk_X4_122 rfl (c_X4_ofEntry (fr := fr - 1) hM.1 (by omega) o e 1 ho he (by decide)) rfl rfl (Nat.le_of_ble_eq_true rfl) (by omega) (by decide) (Nat.le_refl _) (Nat.le_refl _) dX4_putsEntry_84 (fun hp hM => ?_)
            refine mm_call hX hM lk_X4_200 rfl (c_X4_putsNumber (fr := fr - 1) hM.1 (by omega) (k + 2) (mPuts_2 (mPuts_2 ek [_]) [_]) (by omega) _) rfl rfl (Nat.le_of_ble_eq_true rfl) (by omega) (by decide) (Nat.le_refl _) (Nat.le_refl _) dX4_putsEntry_87 (fun hp hM => ?_)
            refine aw_ald0 hX dX4_putsEntry_90 ?_
            refine aw_bipush (v := 61) hX dX4_putsEntry_91 (by decide) ?_
            refine mm_call hX hM lk_X4_196 rfl (c_X4_puts (fr := fr - 1) hM.1 (by omega) (k + 2 + (wNum (S.1 0 (mE o e 1))).length) (mPuts_2 (mPuts_2 (mPuts_2 ek [_]) [_]) (wNum (S.1 0 (mE o e 1)))) (by have := wNum_le (S.1 0 (mE o e 1)); omega) _) rfl rfl (Nat.le_of_ble_eq_true rfl) (by omega) (by decide) (Nat.le_refl _) (Nat.le_refl _) dX4_putsEntry_93 (fun hp hM => ?_)
            have hM := hM.cg (S' := mPuts S (wSg (decide ((S.1 0 (mE o e 3)) = 1)) ++ wKd (S.1 0 (mE o e 0)) ++ wWh (S.1 0 (mE o e 0)) (S.1 0 (mE o e 1)) ++ [61])) (by
              repeat rw [mPuts_app]
              refine congrArg (mPuts S) ?_
              first | rw [decide_eq_true c26] | rw [decide_eq_false c26]
              unfold wKd wWh
              first | (rw [if_pos c41]) | (rw [if_neg c41, if_pos c51]) | (rw [if_neg c41, if_neg c51, if_pos c61]) | (rw [if_neg c41, if_neg c51, if_neg c61])
              first | rw [if_pos (Int32.not_le.mp c76)] | rw [if_neg (Int32.not_lt.mpr c76)]
              rfl)
            exact K96 _ hM
        · refine aw_bipush (v := 111) hX dX4_putsEntry_64 (by decide) ?_
          refine aw_goto hX (tgt := 71) dX4_putsEntry_66 (by decide) ?_
          refine mm_call hX hM lk_X4_196 rfl (c_X4_puts (fr := fr - 1) hM.1 (by omega) (k + 1) (mPuts_2 ek [_]) (by omega) _) rfl rfl (Nat.le_of_ble_eq_true rfl) (by omega) (by decide) (Nat.le_refl _) (Nat.le_refl _) dX4_putsEntry_71 (fun hp hM => ?_)
          refine aw_ild3 hX dX4_putsEntry_74 ?_
          refine aw_iconst (v := 2) hX dX4_putsEntry_75 (by decide) ?_
          refine aw_icmp_ge hX (tgt := 90) dX4_putsEntry_76 (by decide) (fun c76 => ?_) (fun c76 => ?_)
          · refine aw_ald0 hX dX4_putsEntry_90 ?_
            refine aw_bipush (v := 61) hX dX4_putsEntry_91 (by decide) ?_
            refine mm_call hX hM lk_X4_196 rfl (c_X4_puts (fr := fr - 1) hM.1 (by omega) (k + 2) (mPuts_2 (mPuts_2 ek [_]) [_]) (by omega) _) rfl rfl (Nat.le_of_ble_eq_true rfl) (by omega) (by decide) (Nat.le_refl _) (Nat.le_refl _) dX4_putsEntry_93 (fun hp hM => ?_)
            have hM := hM.cg (S' := mPuts S (wSg (decide ((S.1 0 (mE o e 3)) = 1)) ++ wKd (S.1 0 (mE o e 0)) ++ wWh (S.1 0 (mE o e 0)) (S.1 0 (mE o e 1)) ++ [61])) (by
              repeat rw [mPuts_app]
              refine congrArg (mPuts S) ?_
              first | rw [decide_eq_true c26] | rw [decide_eq_false c26]
              unfold wKd wWh
              first | (rw [if_pos c41]) | (rw [if_neg c41, if_pos c51]) | (rw [if_neg c41, if_neg c51, if_pos c61]) | (rw [if_neg c41, if_neg c51, if_neg c61])
              first | rw [if_pos (Int32.not_le.mp c76)] | rw [if_neg (Int32.not_lt.mpr c76)]
              rfl)
            exact K96 _ hM
          · refine aw_ald0 hX dX4_putsEntry_79 ?_
            refine aw_ald0 hX dX4_putsEntry_80 ?_
            refine aw_ild1 hX dX4_putsEntry_81 ?_
            refine aw_ild2 hX dX4_putsEntry_82 ?_
            refine aw_iconst (v := 1) hX dX4_putsEntry_83 (by decide) ?_
            refine mm_call hX hM lk_X4_122 rfl (c_X4_ofEntry (fr := fr - 1) hM.1 (by omega) o e 1 ho he (by decide)) rfl rfl (Nat.le_of_ble_eq_true rfl) (by omega) (by decide) (Nat.le_refl _) (Nat.le_refl _) dX4_putsEntry_84 (fun hp hM => ?_)
            refine mm_call hX hM lk_X4_200 rfl (c_X4_putsNumber (fr := fr - 1) hM.1 (by omega) (k + 2) (mPuts_2 (mPuts_2 ek [_]) [_]) (by omega) _) rfl rfl (Nat.le_of_ble_eq_true rfl) (by omega) (by decide) (Nat.le_refl _) (Nat.le_refl _) dX4_putsEntry_87 (fun hp hM => ?_)
            refine aw_ald0 hX dX4_putsEntry_90 ?_
            refine aw_bipush (v := 61) hX dX4_putsEntry_91 (by decide) ?_
            refine mm_call hX hM lk_X4_196 rfl (c_X4_puts (fr := fr - 1) hM.1 (by omega) (k + 2 + (wNum (S.1 0 (mE o e 1))).length) (mPuts_2 (mPuts_2 (mPuts_2 ek [_]) [_]) (wNum (S.1 0 (mE o e 1)))) (by have := wNum_le (S.1 0 (mE o e 1)); omega) _) rfl rfl (Nat.le_of_ble_eq_true rfl) (by omega) (by decide) (Nat.le_refl _) (Nat.le_refl _) dX4_putsEntry_93 (fun hp hM => ?_)
            have hM := hM.cg (S' := mPuts S (wSg (decide ((S.1 0 (mE o e 3)) = 1)) ++ wKd (S.1 0 (mE o e 0)) ++ wWh (S.1 0 (mE o e 0)) (S.1 0 (mE o e 1)) ++ [61])) (by
              repeat rw [mPuts_app]
              refine congrArg (mPuts S) ?_
              first | rw [decide_eq_true c26] | rw [decide_eq_false c26]
              unfold wKd wWh
              first | (rw [if_pos c41]) | (rw [if_neg c41, if_pos c51]) | (rw [if_neg c41, if_neg c51, if_pos c61]) | (rw [if_neg c41, if_neg c51, if_neg c61])
              first | rw [if_pos (Int32.not_le.mp c76)] | rw [if_neg (Int32.not_lt.mpr c76)]
              rfl)
            exact K96 _ hM
      · refine aw_bipush (v := 103) hX dX4_putsEntry_54 (by decide) ?_
        refine aw_goto hX (tgt := 71) dX4_putsEntry_56 (by decide) ?_
        refine mm_call hX hM lk_X4_196 rfl (c_X4_puts (fr := fr - 1) hM.1 (by omega) (k + 1) (mPuts_2 ek [_]) (by omega) _) rfl rfl (Nat.le_of_ble_eq_true rfl) (by omega) (by decide) (Nat.le_refl _) (Nat.le_refl _) dX4_putsEntry_71 (fun hp hM => ?_)
        refine aw_ild3 hX dX4_putsEntry_74 ?_
        refine aw_iconst (v := 2) hX dX4_putsEntry_75 (by decide) ?_
        refine aw_icmp_ge hX (tgt := 90) dX4_putsEntry_76 (by decide) (fun c76 => ?_) (fun c76 => ?_)
        · refine aw_ald0 hX dX4_putsEntry_90 ?_
          refine aw_bipush (v := 61) hX dX4_putsEntry_91 (by decide) ?_
          refine mm_call hX hM lk_X4_196 rfl (c_X4_puts (fr := fr - 1) hM.1 (by omega) (k + 2) (mPuts_2 (mPuts_2 ek [_]) [_]) (by omega) _) rfl rfl (Nat.le_of_ble_eq_true rfl) (by omega) (by decide) (Nat.le_refl _) (Nat.le_refl _) dX4_putsEntry_93 (fun hp hM => ?_)
          have hM := hM.cg (S' := mPuts S (wSg (decide ((S.1 0 (mE o e 3)) = 1)) ++ wKd (S.1 0 (mE o e 0)) ++ wWh (S.1 0 (mE o e 0)) (S.1 0 (mE o e 1)) ++ [61])) (by
            repeat rw [mPuts_app]
            refine congrArg (mPuts S) ?_
            first | rw [decide_eq_true c26] | rw [decide_eq_false c26]
            unfold wKd wWh
            first | (rw [if_pos c41]) | (rw [if_neg c41, if_pos c51]) | (rw [if_neg c41, if_neg c51, if_pos c61]) | (rw [if_neg c41, if_neg c51, if_neg c61])
            first | rw [if_pos (Int32.not_le.mp c76)] | rw [if_neg (Int32.not_lt.mpr c76)]
            rfl)
          exact K96 _ hM
        · refine aw_ald0 hX dX4_putsEntry_79 ?_
          refine aw_ald0 hX dX4_putsEntry_80 ?_
          refine aw_ild1 hX dX4_putsEntry_81 ?_
          refine aw_ild2 hX dX4_putsEntry_82 ?_
          refine aw_iconst (v := 1) hX dX4_putsEntry_83 (by decide) ?_
          refine mm_call hX hM lk_X4_122 rfl (c_X4_ofEntry (fr := fr - 1) hM.1 (by omega) o e 1 ho he (by decide)) rfl rfl (Nat.le_of_ble_eq_true rfl) (by omega) (by decide) (Nat.le_refl _) (Nat.le_refl _) dX4_putsEntry_84 (fun hp hM => ?_)
          refine mm_call hX hM lk_X4_200 rfl (c_X4_putsNumber (fr := fr - 1) hM.1 (by omega) (k + 2) (mPuts_2 (mPuts_2 ek [_]) [_]) (by omega) _) rfl rfl (Nat.le_of_ble_eq_true rfl) (by omega) (by decide) (Nat.le_refl _) (Nat.le_refl _) dX4_putsEntry_87 (fun hp hM => ?_)
          refine aw_ald0 hX dX4_putsEntry_90 ?_
          refine aw_bipush (v := 61) hX dX4_putsEntry_91 (by decide) ?_
          refine mm_call hX hM lk_X4_196 rfl (c_X4_puts (fr := fr - 1) hM.1 (by omega) (k + 2 + (wNum (S.1 0 (mE o e 1))).length) (mPuts_2 (mPuts_2 (mPuts_2 ek [_]) [_]) (wNum (S.1 0 (mE o e 1)))) (by have := wNum_le (S.1 0 (mE o e 1)); omega) _) rfl rfl (Nat.le_of_ble_eq_true rfl) (by omega) (by decide) (Nat.le_refl _) (Nat.le_refl _) dX4_putsEntry_93 (fun hp hM => ?_)
          have hM := hM.cg (S' := mPuts S (wSg (decide ((S.1 0 (mE o e 3)) = 1)) ++ wKd (S.1 0 (mE o e 0)) ++ wWh (S.1 0 (mE o e 0)) (S.1 0 (mE o e 1)) ++ [61])) (by
            repeat rw [mPuts_app]
            refine congrArg (mPuts S) ?_
            first | rw [decide_eq_true c26] | rw [decide_eq_false c26]
            unfold wKd wWh
            first | (rw [if_pos c41]) | (rw [if_neg c41, if_pos c51]) | (rw [if_neg c41, if_neg c51, if_pos c61]) | (rw [if_neg c41, if_neg c51, if_neg c61])
            first | rw [if_pos (Int32.not_le.mp c76)] | rw [if_neg (Int32.not_lt.mpr c76)]
            rfl)
          exact K96 _ hM
    · refine aw_bipush (v := 117) hX dX4_putsEntry_44 (by decide) ?_
      refine aw_goto hX (tgt := 71) dX4_putsEntry_46 (by decide) ?_
      refine mm_call hX hM lk_X4_196 rfl (c_X4_puts (fr := fr - 1) hM.1 (by omega) (k + 1) (mPuts_2 ek [_]) (by omega) _) rfl rfl (Nat.le_of_ble_eq_true rfl) (by omega) (by decide) (Nat.le_refl _) (Nat.le_refl _) dX4_putsEntry_71 (fun hp hM => ?_)
      refine aw_ild3 hX dX4_putsEntry_74 ?_
      refine aw_iconst (v := 2) hX dX4_putsEntry_75 (by decide) ?_
      refine aw_icmp_ge hX (tgt := 90) dX4_putsEntry_76 (by decide) (fun c76 => ?_) (fun c76 => ?_)
      · refine aw_ald0 hX dX4_putsEntry_90 ?_
        refine aw_bipush (v := 61) hX dX4_putsEntry_91 (by decide) ?_
        refine mm_call hX hM lk_X4_196 rfl (c_X4_puts (fr := fr - 1) hM.1 (by omega) (k + 2) (mPuts_2 (mPuts_2 ek [_]) [_]) (by omega) _) rfl rfl (Nat.le_of_ble_eq_true rfl) (by omega) (by decide) (Nat.le_refl _) (Nat.le_refl _) dX4_putsEntry_93 (fun hp hM => ?_)
        have hM := hM.cg (S' := mPuts S (wSg (decide ((S.1 0 (mE o e 3)) = 1)) ++ wKd (S.1 0 (mE o e 0)) ++ wWh (S.1 0 (mE o e 0)) (S.1 0 (mE o e 1)) ++ [61])) (by
          repeat rw [mPuts_app]
          refine congrArg (mPuts S) ?_
          first | rw [decide_eq_true c26] | rw [decide_eq_false c26]
          unfold wKd wWh
          first | (rw [if_pos c41]) | (rw [if_neg c41, if_pos c51]) | (rw [if_neg c41, if_neg c51, if_pos c61]) | (rw [if_neg c41, if_neg c51, if_neg c61])
          first | rw [if_pos (Int32.not_le.mp c76)] | rw [if_neg (Int32.not_lt.mpr c76)]
          rfl)
        exact K96 _ hM
      · refine aw_ald0 hX dX4_putsEntry_79 ?_
        refine aw_ald0 hX dX4_putsEntry_80 ?_
        refine aw_ild1 hX dX4_putsEntry_81 ?_
        refine aw_ild2 hX dX4_putsEntry_82 ?_
        refine aw_iconst (v := 1) hX dX4_putsEntry_83 (by decide) ?_
        refine mm_call hX hM lk_X4_122 rfl (c_X4_ofEntry (fr := fr - 1) hM.1 (by omega) o e 1 ho he (by decide)) rfl rfl (Nat.le_of_ble_eq_true rfl) (by omega) (by decide) (Nat.le_refl _) (Nat.le_refl _) dX4_putsEntry_84 (fun hp hM => ?_)
        refine mm_call hX hM lk_X4_200 rfl (c_X4_putsNumber (fr := fr - 1) hM.1 (by omega) (k + 2) (mPuts_2 (mPuts_2 ek [_]) [_]) (by omega) _) rfl rfl (Nat.le_of_ble_eq_true rfl) (by omega) (by decide) (Nat.le_refl _) (Nat.le_refl _) dX4_putsEntry_87 (fun hp hM => ?_)
        refine aw_ald0 hX dX4_putsEntry_90 ?_
        refine aw_bipush (v := 61) hX dX4_putsEntry_91 (by decide) ?_
        refine mm_call hX hM lk_X4_196 rfl (c_X4_puts (fr := fr - 1) hM.1 (by omega) (k + 2 + (wNum (S.1 0 (mE o e 1))).length) (mPuts_2 (mPuts_2 (mPuts_2 ek [_]) [_]) (wNum (S.1 0 (mE o e 1)))) (by have := wNum_le (S.1 0 (mE o e 1)); omega) _) rfl rfl (Nat.le_of_ble_eq_true rfl) (by omega) (by decide) (Nat.le_refl _) (Nat.le_refl _) dX4_putsEntry_93 (fun hp hM => ?_)
        have hM := hM.cg (S' := mPuts S (wSg (decide ((S.1 0 (mE o e 3)) = 1)) ++ wKd (S.1 0 (mE o e 0)) ++ wWh (S.1 0 (mE o e 0)) (S.1 0 (mE o e 1)) ++ [61])) (by
          repeat rw [mPuts_app]
          refine congrArg (mPuts S) ?_
          first | rw [decide_eq_true c26] | rw [decide_eq_false c26]
          unfold wKd wWh
          first | (rw [if_pos c41]) | (rw [if_neg c41, if_pos c51]) | (rw [if_neg c41, if_neg c51, if_pos c61]) | (rw [if_neg c41, if_neg c51, if_neg c61])
          first | rw [if_pos (Int32.not_le.mp c76)] | rw [if_neg (Int32.not_lt.mpr c76)]
          rfl)
        exact K96 _ hM
