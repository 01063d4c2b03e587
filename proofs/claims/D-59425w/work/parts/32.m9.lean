/-! THE REFERENCE, printed by m9.py: who decides, what is allowed, what has changed -/
set_option maxHeartbeats 4000000 in
set_option maxRecDepth 100000 in
theorem c_X4_isFor {D : Gd} {fr : Nat} {m : Nat} {ad : Nat → Nat} {S : Ms} {h : Hm} (hM : MW m ad S h) (hf : 3 ≤ fr) (ok : mWf (S.1 0)) (u : Int32) (o l e : Nat) (ho : o < 20) (hl : l < 20) (hl1 : S.1 0 (mO l 0) = 1) (he : e < mN (S.1 0 (mO l 5))) : MC D fr yX4_isFor cX4_isFor 6 (some .boolean) m ad h [.int u, .int (nI o), .int (nI l), .int (nI e)] (some (.int (bI (mFor (S.1 0) u o l e)))) (S) := by
  refine AM.of (lv := [some (.ref m), some (.int u), some (.int (nI o)), some (.int (nI l)), some (.int (nI e)), none]) (by decide +kernel) (Nat.le_of_ble_eq_true rfl) rfl (fun z hX hq _ => ?_)
  have hM := hM.rf
  obtain ⟨he6, hen⟩ := ok.en hl hl1 he
  obtain ⟨ng, hng, eg⟩ := ok.g
  refine aw_ald0 hX dX4_isFor_0 ?_
  refine aw_ild3 hX dX4_isFor_1 ?_
  refine aw_ild4 hX dX4_isFor_2 ?_
  refine aw_iconst (v := 1) hX dX4_isFor_4 (by decide) ?_
  refine mm_call hX hM lk_X4_122 rfl (c_X4_ofEntry (fr := fr - 1) hM.1 (by omega) l e 1 hl he6 (by decide)) rfl rfl (Nat.le_of_ble_eq_true rfl) (by omega) (by decide) (Nat.le_refl _) (Nat.le_refl _) dX4_isFor_5 (fun hp hM => ?_)
  refine aw_ist5 hX dX4_isFor_8 (by decide) rfl ?_
  refine aw_ald0 hX dX4_isFor_10 ?_
  refine aw_ild3 hX dX4_isFor_11 ?_
  refine aw_ild4 hX dX4_isFor_12 ?_
  refine aw_iconst (v := 0) hX dX4_isFor_14 (by decide) ?_
  refine mm_call hX hM lk_X4_122 rfl (c_X4_ofEntry (fr := fr - 1) hM.1 (by omega) l e 0 hl he6 (by decide)) rfl rfl (Nat.le_of_ble_eq_true rfl) (by omega) (by decide) (Nat.le_refl _) (Nat.le_refl _) dX4_isFor_15 (fun hp hM => ?_)
  rcases hen.kd with e18 | e18 | e18 | e18
  · rw [e18]
    refine aw_tableIn hX (tgt := 44) dX4_isFor_18 (by decide) (by decide) rfl (by decide) ?_
    refine aw_ild5 hX dX4_isFor_44 ?_
    refine aw_ild1 hX dX4_isFor_46 ?_
    refine aw_icmp_ne hX (tgt := 54) dX4_isFor_47 (by decide) (fun c47 => ?_) (fun c47 => ?_)
    · refine aw_iconst (v := 0) hX dX4_isFor_54 (by decide) ?_
      refine aw_zret hX (by first | rfl | exact bI_n _ | (split <;> rfl)) (Nat.le_refl _) (Nat.le_refl _) dX4_isFor_55 (hq _ _ ?_)
      have e9 : mFor (S.1 0) u o l e = decide (S.1 0 (mE l e 1) = u) := by unfold mFor; rw [if_pos e18]
      rw [e9]
      refine ⟨?_, hM⟩
      first | exact rv0 (decide_eq_false c47) | exact rv1 (decide_eq_true c47)
    · refine aw_iconst (v := 1) hX dX4_isFor_50 (by decide) ?_
      refine aw_goto hX (tgt := 55) dX4_isFor_51 (by decide) ?_
      refine aw_zret hX (by first | rfl | exact bI_n _ | (split <;> rfl)) (Nat.le_refl _) (Nat.le_refl _) dX4_isFor_55 (hq _ _ ?_)
      have e9 : mFor (S.1 0) u o l e = decide (S.1 0 (mE l e 1) = u) := by unfold mFor; rw [if_pos e18]
      rw [e9]
      refine ⟨?_, hM⟩
      first | exact rv0 (decide_eq_false c47) | exact rv1 (decide_eq_true c47)
  · rw [e18]
    refine aw_tableIn hX (tgt := 56) dX4_isFor_18 (by decide) (by decide) rfl (by decide) ?_
    obtain ⟨w, hw, ew⟩ := hen.gr e18
    refine aw_ald0 hX dX4_isFor_56 ?_
    refine aw_ild1 hX dX4_isFor_57 ?_
    refine aw_ild5 hX dX4_isFor_58 ?_
    rw [ew]
    refine mm_call hX hM lk_X4_73 rfl (c_X4_isOf (fr := fr - 1) hM.1 (by omega) u w ng hw hng eg) rfl rfl (Nat.le_of_ble_eq_true rfl) (by omega) (by decide) (Nat.le_refl _) (Nat.le_refl _) dX4_isFor_60 (fun hp hM => ?_)
    refine aw_zret hX (by first | rfl | exact bI_n _ | (split <;> rfl)) (Nat.le_refl _) (Nat.le_refl _) dX4_isFor_63 (hq _ _ ?_)
    have e9 : mFor (S.1 0) u o l e = mIsOf (S.1 0) u w ng := by unfold mFor; rw [if_neg (by rw [e18]; decide), if_pos e18, ew, mN_i (by omega), eg, mN_i (by omega)]
    rw [e9]
    exact ⟨rfl, hM⟩
  · rw [e18]
    refine aw_tableIn hX (tgt := 64) dX4_isFor_18 (by decide) (by decide) rfl (by decide) ?_
    refine aw_ald0 hX dX4_isFor_64 ?_
    refine aw_ild2 hX dX4_isFor_65 ?_
    refine aw_iconst (v := 2) hX dX4_isFor_66 (by decide) ?_
    refine mm_call hX hM lk_X4_54 rfl (c_X4_of (fr := fr - 1) hM.1 (by omega) o 2 ho (by decide)) rfl rfl (Nat.le_of_ble_eq_true rfl) (by omega) (by decide) (Nat.le_refl _) (Nat.le_refl _) dX4_isFor_67 (fun hp hM => ?_)
    refine aw_ild1 hX dX4_isFor_70 ?_
    refine aw_icmp_ne hX (tgt := 78) dX4_isFor_71 (by decide) (fun c71 => ?_) (fun c71 => ?_)
    · refine aw_iconst (v := 0) hX dX4_isFor_78 (by decide) ?_
      refine aw_zret hX (by first | rfl | exact bI_n _ | (split <;> rfl)) (Nat.le_refl _) (Nat.le_refl _) dX4_isFor_79 (hq _ _ ?_)
      have e9 : mFor (S.1 0) u o l e = decide (S.1 0 (mO o 2) = u) := by unfold mFor; rw [if_neg (by rw [e18]; decide), if_neg (by rw [e18]; decide), if_pos e18]
      rw [e9]
      refine ⟨?_, hM⟩
      first | exact rv0 (decide_eq_false c71) | exact rv1 (decide_eq_true c71)
    · refine aw_iconst (v := 1) hX dX4_isFor_74 (by decide) ?_
      refine aw_goto hX (tgt := 79) dX4_isFor_75 (by decide) ?_
      refine aw_zret hX (by first | rfl | exact bI_n _ | (split <;> rfl)) (Nat.le_refl _) (Nat.le_refl _) dX4_isFor_79 (hq _ _ ?_)
      have e9 : mFor (S.1 0) u o l e = decide (S.1 0 (mO o 2) = u) := by unfold mFor; rw [if_neg (by rw [e18]; decide), if_neg (by rw [e18]; decide), if_pos e18]
      rw [e9]
      refine ⟨?_, hM⟩
      first | exact rv0 (decide_eq_false c71) | exact rv1 (decide_eq_true c71)
  · rw [e18]
    refine aw_tableOut hX (tgt := 80) dX4_isFor_18 (by first | exact Or.inl (by decide) | exact Or.inr (by decide)) (by decide) ?_
    refine aw_iconst (v := 1) hX dX4_isFor_80 (by decide) ?_
    refine aw_zret hX (by first | rfl | exact bI_n _ | (split <;> rfl)) (Nat.le_refl _) (Nat.le_refl _) dX4_isFor_81 (hq _ _ ?_)
    have e9 : mFor (S.1 0) u o l e = true := by unfold mFor; rw [if_neg (by rw [e18]; decide), if_neg (by rw [e18]; decide), if_neg (by rw [e18]; decide)]
    rw [e9]
    exact ⟨rfl, hM⟩
set_option maxHeartbeats 4000000 in
set_option maxRecDepth 100000 in
theorem c_X4_decides {D : Gd} {fr : Nat} {m : Nat} {ad : Nat → Nat} {S : Ms} {h : Hm} (hM : MW m ad S h) (hf : 4 ≤ fr) (ok : mWf (S.1 0)) (u r : Int32) (o : Nat) (ho : o < 20) (ho1 : S.1 0 (mO o 0) = 1) : MC D fr yX4_decides cX4_decides 7 (some .int) m ad h [.int u, .int (nI o), .int r] (some (.int (mDecI (mDec (S.1 0) u o r)))) (S) := by
  refine AM.of (lv := [some (.ref m), some (.int u), some (.int (nI o)), some (.int r), none, none, none]) (by decide +kernel) (Nat.le_of_ble_eq_true rfl) rfl (fun z hX hq _ => ?_)
  have hM := hM.rf
  obtain ⟨rk, hrk, hob⟩ := ok.rk
  refine aw_ild2 hX dX4_decides_0 ?_
  refine aw_ist4 hX dX4_decides_1 (by decide) rfl ?_
  refine (Nat.strongRecOn (motive := fun f => ∀ (x : Int32) (v5 v6 : Option Value) (h9 : Hm), (x = -1 ∨ ∃ q, q < 20 ∧ x = nI q ∧ S.1 0 (mO q 0) = 1 ∧ rk q < f) → mDecF (S.1 0) u o r (f + 1) x = mDec (S.1 0) u o r → MR m ad S h h9 → gW z 3 [some (.ref m), some (.int u), some (.int (nI o)), some (.int r), some (.int x), v5, v6] [] h9 0 0) 21 (fun f ih x v5 v6 h9 hx he hM => ?_)) _ _ _ _ (Or.inr ⟨o, ho, rfl, ho1, by have := hrk o; omega⟩) rfl hM
  refine aw_ild4 hX dX4_decides_3 ?_
  refine aw_if_lt hX (tgt := 125) dX4_decides_5 (by decide) (fun c5 => ?_) (fun c5 => ?_)
  · refine aw_iconst (v := -1) hX dX4_decides_125 (by decide) ?_
    refine aw_iret hX (Nat.le_refl _) (Nat.le_refl _) dX4_decides_126 (hq _ _ ?_)
    rw [← he, mDecF_0 c5]
    exact ⟨rfl, hM⟩
  · obtain ⟨q, hq20, rfl, hq1, hq2⟩ : ∃ q, q < 20 ∧ x = nI q ∧ S.1 0 (mO q 0) = 1 ∧ rk q < f := hx.resolve_left (fun e => c5 (by rw [e]; exact neg1_lt))
    obtain ⟨-, -, c, hc, ec, hen⟩ := hob q hq20 hq1
    refine aw_iconst (v := 0) hX dX4_decides_8 (by decide) ?_
    refine aw_ist5 hX dX4_decides_9 (by decide) rfl ?_
    refine gdown (N := c) (P := fun e => ∀ (v6 : Option Value) (h9 : Hm), fstF (mCnts (S.1 0) u o r q) (c - e) e = fstF (mCnts (S.1 0) u o r q) c 0 → MR m ad S h h9 → gW z 11 [some (.ref m), some (.int u), some (.int (nI o)), some (.int r), some (.int (nI q)), some (.int (nI e)), v6] [] h9 0 0) (fun e he6 ih2 v6 h9 hf9 hM => ?_) 0 (Nat.zero_le _) _ _ rfl hM
    refine aw_ild5 hX dX4_decides_11 ?_
    refine aw_ald0 hX dX4_decides_13 ?_
    refine aw_ild4 hX dX4_decides_14 ?_
    refine aw_iconst (v := 5) hX dX4_decides_16 (by decide) ?_
    refine mm_call hX hM lk_X4_54 rfl (c_X4_of (fr := fr - 1) hM.1 (by omega) q 5 hq20 (by decide)) rfl rfl (Nat.le_of_ble_eq_true rfl) (by omega) (by decide) (Nat.le_refl _) (Nat.le_refl _) dX4_decides_17 (fun hp hM => ?_)
    rw [ec]
    refine aw_icmp_ge hX (tgt := 98) dX4_decides_20 (by decide) (fun c20 => ?_) (fun c20 => ?_)
    · refine aw_ald0 hX dX4_decides_98 ?_
      refine aw_ild4 hX dX4_decides_99 ?_
      refine aw_iconst (v := 4) hX dX4_decides_101 (by decide) ?_
      refine mm_call hX hM lk_X4_54 rfl (c_X4_of (fr := fr - 1) hM.1 (by omega) q 4 hq20 (by decide)) rfl rfl (Nat.le_of_ble_eq_true rfl) (by omega) (by decide) (Nat.le_refl _) (Nat.le_refl _) dX4_decides_102 (fun hp hM => ?_)
      refine aw_iconst (v := 1) hX dX4_decides_105 (by decide) ?_
      refine aw_icmp_ne hX (tgt := 119) dX4_decides_106 (by decide) (fun c106 => ?_) (fun c106 => ?_)
      · refine aw_iconst (v := -1) hX dX4_decides_119 (by decide) ?_
        refine aw_ist4 hX dX4_decides_120 (by decide) rfl ?_
        refine aw_goto hX (tgt := 3) dX4_decides_122 (by decide) ?_
        have hi9 : e = c := Nat.le_antisymm he6 (nle c20 (by omega) (by omega))
        subst hi9
        have hn9 : fstF (mCnts (S.1 0) u o r q) e 0 = none := by rw [← hf9, Nat.sub_self]; rfl
        rw [mDecF_n hq20 ec hc hn9] at he
        obtain ⟨f', h6⟩ : ∃ f', f = f' + 1 := ⟨f - 1, by omega⟩
        subst h6
        refine ih f' (by omega) _ _ _ _ ?_ (Eq.trans (congrArg (mDecF (S.1 0) u o r (f' + 1)) ?_) he) hM
        · first
            | exact Or.inl rfl
            | (rcases (hob q hq20 hq1).1 with ⟨-, e⟩ | ⟨-, q2, e1, e2, e3, e4⟩
               · exact Or.inl e
               · exact Or.inr ⟨q2, e1, e2, e3, by omega⟩)
        · first | exact (if_pos c106).symm | exact (if_neg c106).symm
      · refine aw_ald0 hX dX4_decides_109 ?_
        refine aw_ild4 hX dX4_decides_110 ?_
        refine aw_iconst (v := 1) hX dX4_decides_112 (by decide) ?_
        refine mm_call hX hM lk_X4_54 rfl (c_X4_of (fr := fr - 1) hM.1 (by omega) q 1 hq20 (by decide)) rfl rfl (Nat.le_of_ble_eq_true rfl) (by omega) (by decide) (Nat.le_refl _) (Nat.le_refl _) dX4_decides_113 (fun hp hM => ?_)
        refine aw_goto hX (tgt := 120) dX4_decides_116 (by decide) ?_
        refine aw_ist4 hX dX4_decides_120 (by decide) rfl ?_
        refine aw_goto hX (tgt := 3) dX4_decides_122 (by decide) ?_
        have hi9 : e = c := Nat.le_antisymm he6 (nle c20 (by omega) (by omega))
        subst hi9
        have hn9 : fstF (mCnts (S.1 0) u o r q) e 0 = none := by rw [← hf9, Nat.sub_self]; rfl
        rw [mDecF_n hq20 ec hc hn9] at he
        obtain ⟨f', h6⟩ : ∃ f', f = f' + 1 := ⟨f - 1, by omega⟩
        subst h6
        refine ih f' (by omega) _ _ _ _ ?_ (Eq.trans (congrArg (mDecF (S.1 0) u o r (f' + 1)) ?_) he) hM
        · first
            | exact Or.inl rfl
            | (rcases (hob q hq20 hq1).1 with ⟨-, e⟩ | ⟨-, q2, e1, e2, e3, e4⟩
               · exact Or.inl e
               · exact Or.inr ⟨q2, e1, e2, e3, by omega⟩)
        · first | exact (if_pos c106).symm | exact (if_neg c106).symm
    · have hlt := nnle c20 (by omega) (by omega)
      refine aw_ild4 hX dX4_decides_23 ?_
      refine aw_ild2 hX dX4_decides_25 ?_
      refine aw_icmp_eq hX (tgt := 42) dX4_decides_26 (by decide) (fun c26 => ?_) (fun c26 => ?_)
      · have hqo : q = o := (nI_eq (by omega) (by omega)).mp c26
        refine aw_iconst (v := 1) hX dX4_decides_42 (by decide) ?_
        refine aw_goto hX (tgt := 47) dX4_decides_43 (by decide) ?_
        refine aw_ist6 hX dX4_decides_47 (by decide) rfl ?_
        refine aw_ild6 hX dX4_decides_49 ?_
        refine aw_if_eq hX (tgt := 92) dX4_decides_51 (by decide) (fun c => absurd c (by decide)) (fun _ => ?_)
        refine aw_ald0 hX dX4_decides_54 ?_
        refine aw_ild4 hX dX4_decides_55 ?_
        refine aw_ild5 hX dX4_decides_57 ?_
        refine aw_iconst (v := 2) hX dX4_decides_59 (by decide) ?_
        refine mm_call hX hM lk_X4_122 rfl (c_X4_ofEntry (fr := fr - 1) hM.1 (by omega) q e 2 hq20 (by omega) (by decide)) rfl rfl (Nat.le_of_ble_eq_true rfl) (by omega) (by decide) (Nat.le_refl _) (Nat.le_refl _) dX4_decides_60 (fun hp hM => ?_)
        refine aw_ild3 hX dX4_decides_63 ?_
        refine ss_call hX lk_X4_65 (c_X4_has (fr := fr - 1) (by omega) _ _) rfl rfl (Nat.le_of_ble_eq_true rfl) (by omega) (by decide) (Nat.le_refl _) (Nat.le_refl _) dX4_decides_64 ?_
        refine aw_if_eq hX (tgt := 92) dX4_decides_67 (by decide) (fun c67 => ?_) (fun c67 => ?_)
        · have b67 := bI_0' c67
          refine aw_inc5 hX dX4_decides_92 (by decide) rfl ?_
          refine aw_goto hX (tgt := 11) dX4_decides_95 (by decide) ?_
          have hcf : mCnts (S.1 0) u o r q e = false := by
            simp only [mCnts]
            first | (rw [b67]; simp; done) | (rw [b80]; simp; done) | (rw [decide_eq_false hqo, decide_eq_false c39]; rfl)
          exact ih2 hlt _ _ (by rw [← hf9, show c - e = (c - (e + 1)) + 1 by omega]; exact (fstF_st hcf).symm) hM
        · have b67 := bI_n0 c67
          refine aw_ald0 hX dX4_decides_70 ?_
          refine aw_ild1 hX dX4_decides_71 ?_
          refine aw_ild2 hX dX4_decides_72 ?_
          refine aw_ild4 hX dX4_decides_73 ?_
          refine aw_ild5 hX dX4_decides_75 ?_
          refine mm_call hX hM lk_X4_140 rfl (c_X4_isFor (fr := fr - 1) hM.1 (by omega) ok u o q e ho hq20 hq1 (by rw [ec, mN_i (by omega)]; omega)) rfl rfl (Nat.le_of_ble_eq_true rfl) (by omega) (by decide) (Nat.le_refl _) (Nat.le_refl _) dX4_decides_77 (fun hp hM => ?_)
          refine aw_if_eq hX (tgt := 92) dX4_decides_80 (by decide) (fun c80 => ?_) (fun c80 => ?_)
          · have b80 := bI_0' c80
            refine aw_inc5 hX dX4_decides_92 (by decide) rfl ?_
            refine aw_goto hX (tgt := 11) dX4_decides_95 (by decide) ?_
            have hcf : mCnts (S.1 0) u o r q e = false := by
              simp only [mCnts]
              first | (rw [b67]; simp; done) | (rw [b80]; simp; done) | (rw [decide_eq_false hqo, decide_eq_false c39]; rfl)
            exact ih2 hlt _ _ (by rw [← hf9, show c - e = (c - (e + 1)) + 1 by omega]; exact (fstF_st hcf).symm) hM
          · have b80 := bI_n0 c80
            refine aw_bipush (v := 6) hX dX4_decides_83 (by decide) ?_
            refine aw_ild4 hX dX4_decides_85 ?_
            refine aw_imul hX dX4_decides_87 ?_
            refine aw_ild5 hX dX4_decides_88 ?_
            refine aw_iadd hX dX4_decides_90 ?_
            refine aw_iret hX (Nat.le_refl _) (Nat.le_refl _) dX4_decides_91 (hq _ _ ?_)
            have hct : mCnts (S.1 0) u o r q e = true := by
              simp only [mCnts]
              rw [b67, b80]
              first | (rw [decide_eq_true hqo]; rfl) | (rw [decide_eq_true c39]; simp)
            refine ⟨?_, hM⟩
            rw [← he, mDecF_h hq20 ec hc (show _ = some e by rw [← hf9, show c - e = (c - (e + 1)) + 1 by omega]; exact fstF_hit hct)]
            show some (Value.int (6 * nI q + nI e)) = some (.int (nI (6 * q + e)))
            rw [show (6 : Int32) = nI 6 from rfl, pk_mul, nI_add]
      · have hqo : q ≠ o := fun e => c26 (by rw [e])
        refine aw_ald0 hX dX4_decides_29 ?_
        refine aw_ild4 hX dX4_decides_30 ?_
        refine aw_ild5 hX dX4_decides_32 ?_
        refine aw_iconst (v := 4) hX dX4_decides_34 (by decide) ?_
        refine mm_call hX hM lk_X4_122 rfl (c_X4_ofEntry (fr := fr - 1) hM.1 (by omega) q e 4 hq20 (by omega) (by decide)) rfl rfl (Nat.le_of_ble_eq_true rfl) (by omega) (by decide) (Nat.le_refl _) (Nat.le_refl _) dX4_decides_35 (fun hp hM => ?_)
        refine aw_iconst (v := 1) hX dX4_decides_38 (by decide) ?_
        refine aw_icmp_ne hX (tgt := 46) dX4_decides_39 (by decide) (fun c39 => ?_) (fun c39 => ?_)
        · refine aw_iconst (v := 0) hX dX4_decides_46 (by decide) ?_
          refine aw_ist6 hX dX4_decides_47 (by decide) rfl ?_
          refine aw_ild6 hX dX4_decides_49 ?_
          refine aw_if_eq hX (tgt := 92) dX4_decides_51 (by decide) (fun _ => ?_) (fun c => absurd (rfl) c)
          refine aw_inc5 hX dX4_decides_92 (by decide) rfl ?_
          refine aw_goto hX (tgt := 11) dX4_decides_95 (by decide) ?_
          have hcf : mCnts (S.1 0) u o r q e = false := by
            simp only [mCnts]
            first | (rw [b67]; simp; done) | (rw [b80]; simp; done) | (rw [decide_eq_false hqo, decide_eq_false c39]; rfl)
          exact ih2 hlt _ _ (by rw [← hf9, show c - e = (c - (e + 1)) + 1 by omega]; exact (fstF_st hcf).symm) hM
        · refine aw_iconst (v := 1) hX dX4_decides_42 (by decide) ?_
          refine aw_goto hX (tgt := 47) dX4_decides_43 (by decide) ?_
          refine aw_ist6 hX dX4_decides_47 (by decide) rfl ?_
          refine aw_ild6 hX dX4_decides_49 ?_
          refine aw_if_eq hX (tgt := 92) dX4_decides_51 (by decide) (fun c => absurd c (by decide)) (fun _ => ?_)
          refine aw_ald0 hX dX4_decides_54 ?_
          refine aw_ild4 hX dX4_decides_55 ?_
          refine aw_ild5 hX dX4_decides_57 ?_
          refine aw_iconst (v := 2) hX dX4_decides_59 (by decide) ?_
          refine mm_call hX hM lk_X4_122 rfl (c_X4_ofEntry (fr := fr - 1) hM.1 (by omega) q e 2 hq20 (by omega) (by decide)) rfl rfl (Nat.le_of_ble_eq_true rfl) (by omega) (by decide) (Nat.le_refl _) (Nat.le_refl _) dX4_decides_60 (fun hp hM => ?_)
          refine aw_ild3 hX dX4_decides_63 ?_
          refine ss_call hX lk_X4_65 (c_X4_has (fr := fr - 1) (by omega) _ _) rfl rfl (Nat.le_of_ble_eq_true rfl) (by omega) (by decide) (Nat.le_refl _) (Nat.le_refl _) dX4_decides_64 ?_
          refine aw_if_eq hX (tgt := 92) dX4_decides_67 (by decide) (fun c67 => ?_) (fun c67 => ?_)
          · have b67 := bI_0' c67
            refine aw_inc5 hX dX4_decides_92 (by decide) rfl ?_
            refine aw_goto hX (tgt := 11) dX4_decides_95 (by decide) ?_
            have hcf : mCnts (S.1 0) u o r q e = false := by
              simp only [mCnts]
              first | (rw [b67]; simp; done) | (rw [b80]; simp; done) | (rw [decide_eq_false hqo, decide_eq_false c39]; rfl)
            exact ih2 hlt _ _ (by rw [← hf9, show c - e = (c - (e + 1)) + 1 by omega]; exact (fstF_st hcf).symm) hM
          · have b67 := bI_n0 c67
            refine aw_ald0 hX dX4_decides_70 ?_
            refine aw_ild1 hX dX4_decides_71 ?_
            refine aw_ild2 hX dX4_decides_72 ?_
            refine aw_ild4 hX dX4_decides_73 ?_
            refine aw_ild5 hX dX4_decides_75 ?_
            refine mm_call hX hM lk_X4_140 rfl (c_X4_isFor (fr := fr - 1) hM.1 (by omega) ok u o q e ho hq20 hq1 (by rw [ec, mN_i (by omega)]; omega)) rfl rfl (Nat.le_of_ble_eq_true rfl) (by omega) (by decide) (Nat.le_refl _) (Nat.le_refl _) dX4_decides_77 (fun hp hM => ?_)
            refine aw_if_eq hX (tgt := 92) dX4_decides_80 (by decide) (fun c80 => ?_) (fun c80 => ?_)
            · have b80 := bI_0' c80
              refine aw_inc5 hX dX4_decides_92 (by decide) rfl ?_
              refine aw_goto hX (tgt := 11) dX4_decides_95 (by decide) ?_
              have hcf : mCnts (S.1 0) u o r q e = false := by
                simp only [mCnts]
                first | (rw [b67]; simp; done) | (rw [b80]; simp; done) | (rw [decide_eq_false hqo, decide_eq_false c39]; rfl)
              exact ih2 hlt _ _ (by rw [← hf9, show c - e = (c - (e + 1)) + 1 by omega]; exact (fstF_st hcf).symm) hM
            · have b80 := bI_n0 c80
              refine aw_bipush (v := 6) hX dX4_decides_83 (by decide) ?_
              refine aw_ild4 hX dX4_decides_85 ?_
              refine aw_imul hX dX4_decides_87 ?_
              refine aw_ild5 hX dX4_decides_88 ?_
              refine aw_iadd hX dX4_decides_90 ?_
              refine aw_iret hX (Nat.le_refl _) (Nat.le_refl _) dX4_decides_91 (hq _ _ ?_)
              have hct : mCnts (S.1 0) u o r q e = true := by
                simp only [mCnts]
                rw [b67, b80]
                first | (rw [decide_eq_true hqo]; rfl) | (rw [decide_eq_true c39]; simp)
              refine ⟨?_, hM⟩
              rw [← he, mDecF_h hq20 ec hc (show _ = some e by rw [← hf9, show c - e = (c - (e + 1)) + 1 by omega]; exact fstF_hit hct)]
              show some (Value.int (6 * nI q + nI e)) = some (.int (nI (6 * q + e)))
              rw [show (6 : Int32) = nI 6 from rfl, pk_mul, nI_add]
set_option maxHeartbeats 4000000 in
set_option maxRecDepth 100000 in
theorem c_X4_isByList {D : Gd} {fr : Nat} {m : Nat} {ad : Nat → Nat} {S : Ms} {h : Hm} (hM : MW m ad S h) (hf : 5 ≤ fr) (ok : mWf (S.1 0)) (u r : Int32) (o : Nat) (ho : o < 20) (ho1 : S.1 0 (mO o 0) = 1) : MC D fr yX4_isByList cX4_isByList 5 (some .boolean) m ad h [.int u, .int (nI o), .int r] (some (.int (bI (mByList (S.1 0) u o r)))) (S) := by
  refine AM.of (lv := [some (.ref m), some (.int u), some (.int (nI o)), some (.int r), none]) (by decide +kernel) (Nat.le_of_ble_eq_true rfl) rfl (fun z hX hq _ => ?_)
  have hM := hM.rf
  refine aw_ald0 hX dX4_isByList_0 ?_
  refine aw_ild1 hX dX4_isByList_1 ?_
  refine aw_ild2 hX dX4_isByList_2 ?_
  refine aw_ild3 hX dX4_isByList_3 ?_
  refine mm_call hX hM lk_X4_144 rfl (c_X4_decides (fr := fr - 1) hM.1 (by omega) ok u r o ho ho1) rfl rfl (Nat.le_of_ble_eq_true rfl) (by omega) (by decide) (Nat.le_refl _) (Nat.le_refl _) dX4_isByList_4 (fun hp hM => ?_)
  refine aw_ist4 hX dX4_isByList_7 (by decide) rfl ?_
  refine aw_ild4 hX dX4_isByList_9 ?_
  refine aw_if_lt hX (tgt := 37) dX4_isByList_11 (by decide) (fun c11 => ?_) (fun c11 => ?_)
  · refine aw_iconst (v := 0) hX dX4_isByList_37 (by decide) ?_
    refine aw_zret hX (by first | rfl | exact bI_n _ | (split <;> rfl)) (Nat.le_refl _) (Nat.le_refl _) dX4_isByList_38 (hq _ _ ?_)
    refine ⟨?_, hM⟩
    unfold mByList
    first
      | (rw [mDec_no ok ho ho1 c11]; rfl)
      | (rw [hde]; first | exact rv0 (decide_eq_false c30) | exact rv1 (decide_eq_true c30))
  · obtain ⟨l, e, hde, hl, he, hd9⟩ := mDec_ex ok ho ho1 c11
    rw [hd9]
    refine aw_ald0 hX dX4_isByList_14 ?_
    refine aw_ild4 hX dX4_isByList_15 ?_
    refine aw_bipush (v := 6) hX dX4_isByList_17 (by decide) ?_
    refine aw_idiv hX dX4_isByList_19 (by decide) ?_
    refine aw_ild4 hX dX4_isByList_20 ?_
    refine aw_bipush (v := 6) hX dX4_isByList_22 (by decide) ?_
    refine aw_irem hX dX4_isByList_24 (by decide) ?_
    refine aw_iconst (v := 3) hX dX4_isByList_25 (by decide) ?_
    rw [dec_rem hl he, dec_div hl he]
    refine mm_call hX hM lk_X4_122 rfl (c_X4_ofEntry (fr := fr - 1) hM.1 (by omega) l e 3 hl he (by decide)) rfl rfl (Nat.le_of_ble_eq_true rfl) (by omega) (by decide) (Nat.le_refl _) (Nat.le_refl _) dX4_isByList_26 (fun hp hM => ?_)
    refine aw_iconst (v := 1) hX dX4_isByList_29 (by decide) ?_
    refine aw_icmp_ne hX (tgt := 37) dX4_isByList_30 (by decide) (fun c30 => ?_) (fun c30 => ?_)
    · refine aw_iconst (v := 0) hX dX4_isByList_37 (by decide) ?_
      refine aw_zret hX (by first | rfl | exact bI_n _ | (split <;> rfl)) (Nat.le_refl _) (Nat.le_refl _) dX4_isByList_38 (hq _ _ ?_)
      refine ⟨?_, hM⟩
      unfold mByList
      first
        | (rw [mDec_no ok ho ho1 c11]; rfl)
        | (rw [hde]; first | exact rv0 (decide_eq_false c30) | exact rv1 (decide_eq_true c30))
    · refine aw_iconst (v := 1) hX dX4_isByList_33 (by decide) ?_
      refine aw_goto hX (tgt := 38) dX4_isByList_34 (by decide) ?_
      refine aw_zret hX (by first | rfl | exact bI_n _ | (split <;> rfl)) (Nat.le_refl _) (Nat.le_refl _) dX4_isByList_38 (hq _ _ ?_)
      refine ⟨?_, hM⟩
      unfold mByList
      first
        | (rw [mDec_no ok ho ho1 c11]; rfl)
        | (rw [hde]; first | exact rv0 (decide_eq_false c30) | exact rv1 (decide_eq_true c30))
set_option maxHeartbeats 4000000 in
set_option maxRecDepth 100000 in
theorem c_X4_allows {D : Gd} {fr : Nat} {m : Nat} {ad : Nat → Nat} {S : Ms} {h : Hm} (hM : MW m ad S h) (hf : 6 ≤ fr) (ok : mWf (S.1 0)) (u r : Int32) (o : Nat) (ho : o < 20) (ho1 : S.1 0 (mO o 0) = 1) : MC D fr yX4_allows cX4_allows 4 (some .boolean) m ad h [.int u, .int (nI o), .int r] (some (.int (bI (mAllows (S.1 0) u o r)))) (S) := by
  refine AM.of (lv := [some (.ref m), some (.int u), some (.int (nI o)), some (.int r)]) (by decide +kernel) (Nat.le_of_ble_eq_true rfl) rfl (fun z hX hq _ => ?_)
  have hM := hM.rf
  refine aw_ild1 hX dX4_allows_0 ?_
  refine aw_if_eq hX (tgt := 42) dX4_allows_1 (by decide) (fun c1 => ?_) (fun c1 => ?_)
  · refine aw_iconst (v := 1) hX dX4_allows_42 (by decide) ?_
    refine aw_goto hX (tgt := 47) dX4_allows_43 (by decide) ?_
    refine aw_zret hX (by first | rfl | exact bI_n _ | (split <;> rfl)) (Nat.le_refl _) (Nat.le_refl _) dX4_allows_47 (hq _ _ ?_)
    refine ⟨?_, hM⟩
    first
      | exact rv1 (by unfold mAllows; rw [decide_eq_true c1]; rfl)
      | exact rv1 (by unfold mAllows; rw [decide_eq_true c6, decide_eq_true c16]; simp)
      | exact rv1 (by unfold mAllows; rw [b29, b39]; simp)
      | exact rv0 (by unfold mAllows; rw [decide_eq_false c1, decide_eq_false c6, b39]; simp)
      | exact rv0 (by unfold mAllows; rw [decide_eq_false c1, decide_eq_false c16, b39]; simp)
      | exact rv0 (by unfold mAllows; rw [decide_eq_false c1, decide_eq_false c6, b29]; rfl)
      | exact rv0 (by unfold mAllows; rw [decide_eq_false c1, decide_eq_false c16, b29]; simp)
  · refine aw_ild3 hX dX4_allows_4 ?_
    refine aw_iconst (v := 3) hX dX4_allows_5 (by decide) ?_
    refine aw_icmp_ne hX (tgt := 19) dX4_allows_6 (by decide) (fun c6 => ?_) (fun c6 => ?_)
    · refine aw_ald0 hX dX4_allows_19 ?_
      refine aw_ild2 hX dX4_allows_20 ?_
      refine aw_iconst (v := 3) hX dX4_allows_21 (by decide) ?_
      refine mm_call hX hM lk_X4_54 rfl (c_X4_of (fr := fr - 1) hM.1 (by omega) o 3 ho (by decide)) rfl rfl (Nat.le_of_ble_eq_true rfl) (by omega) (by decide) (Nat.le_refl _) (Nat.le_refl _) dX4_allows_22 (fun hp hM => ?_)
      refine aw_ild3 hX dX4_allows_25 ?_
      refine ss_call hX lk_X4_65 (c_X4_has (fr := fr - 1) (by omega) _ _) rfl rfl (Nat.le_of_ble_eq_true rfl) (by omega) (by decide) (Nat.le_refl _) (Nat.le_refl _) dX4_allows_26 ?_
      refine aw_if_eq hX (tgt := 46) dX4_allows_29 (by decide) (fun c29 => ?_) (fun c29 => ?_)
      · have b29 := bI_0' c29
        refine aw_iconst (v := 0) hX dX4_allows_46 (by decide) ?_
        refine aw_zret hX (by first | rfl | exact bI_n _ | (split <;> rfl)) (Nat.le_refl _) (Nat.le_refl _) dX4_allows_47 (hq _ _ ?_)
        refine ⟨?_, hM⟩
        first
          | exact rv1 (by unfold mAllows; rw [decide_eq_true c1]; rfl)
          | exact rv1 (by unfold mAllows; rw [decide_eq_true c6, decide_eq_true c16]; simp)
          | exact rv1 (by unfold mAllows; rw [b29, b39]; simp)
          | exact rv0 (by unfold mAllows; rw [decide_eq_false c1, decide_eq_false c6, b39]; simp)
          | exact rv0 (by unfold mAllows; rw [decide_eq_false c1, decide_eq_false c16, b39]; simp)
          | exact rv0 (by unfold mAllows; rw [decide_eq_false c1, decide_eq_false c6, b29]; rfl)
          | exact rv0 (by unfold mAllows; rw [decide_eq_false c1, decide_eq_false c16, b29]; simp)
      · have b29 := bI_n0 c29
        refine aw_ald0 hX dX4_allows_32 ?_
        refine aw_ild1 hX dX4_allows_33 ?_
        refine aw_ild2 hX dX4_allows_34 ?_
        refine aw_ild3 hX dX4_allows_35 ?_
        refine mm_call hX hM lk_X4_147 rfl (c_X4_isByList (fr := fr - 1) hM.1 (by omega) ok u r o ho ho1) rfl rfl (Nat.le_of_ble_eq_true rfl) (by omega) (by decide) (Nat.le_refl _) (Nat.le_refl _) dX4_allows_36 (fun hp hM => ?_)
        refine aw_if_eq hX (tgt := 46) dX4_allows_39 (by decide) (fun c39 => ?_) (fun c39 => ?_)
        · have b39 := bI_0' c39
          refine aw_iconst (v := 0) hX dX4_allows_46 (by decide) ?_
          refine aw_zret hX (by first | rfl | exact bI_n _ | (split <;> rfl)) (Nat.le_refl _) (Nat.le_refl _) dX4_allows_47 (hq _ _ ?_)
          refine ⟨?_, hM⟩
          first
            | exact rv1 (by unfold mAllows; rw [decide_eq_true c1]; rfl)
            | exact rv1 (by unfold mAllows; rw [decide_eq_true c6, decide_eq_true c16]; simp)
            | exact rv1 (by unfold mAllows; rw [b29, b39]; simp)
            | exact rv0 (by unfold mAllows; rw [decide_eq_false c1, decide_eq_false c6, b39]; simp)
            | exact rv0 (by unfold mAllows; rw [decide_eq_false c1, decide_eq_false c16, b39]; simp)
            | exact rv0 (by unfold mAllows; rw [decide_eq_false c1, decide_eq_false c6, b29]; rfl)
            | exact rv0 (by unfold mAllows; rw [decide_eq_false c1, decide_eq_false c16, b29]; simp)
        · have b39 := bI_n0 c39
          refine aw_iconst (v := 1) hX dX4_allows_42 (by decide) ?_
          refine aw_goto hX (tgt := 47) dX4_allows_43 (by decide) ?_
          refine aw_zret hX (by first | rfl | exact bI_n _ | (split <;> rfl)) (Nat.le_refl _) (Nat.le_refl _) dX4_allows_47 (hq _ _ ?_)
          refine ⟨?_, hM⟩
          first
            | exact rv1 (by unfold mAllows; rw [decide_eq_true c1]; rfl)
            | exact rv1 (by unfold mAllows; rw [decide_eq_true c6, decide_eq_true c16]; simp)
            | exact rv1 (by unfold mAllows; rw [b29, b39]; simp)
            | exact rv0 (by unfold mAllows; rw [decide_eq_false c1, decide_eq_false c6, b39]; simp)
            | exact rv0 (by unfold mAllows; rw [decide_eq_false c1, decide_eq_false c16, b39]; simp)
            | exact rv0 (by unfold mAllows; rw [decide_eq_false c1, decide_eq_false c6, b29]; rfl)
            | exact rv0 (by unfold mAllows; rw [decide_eq_false c1, decide_eq_false c16, b29]; simp)
    · refine aw_ald0 hX dX4_allows_9 ?_
      refine aw_ild2 hX dX4_allows_10 ?_
      refine aw_iconst (v := 2) hX dX4_allows_11 (by decide) ?_
      refine mm_call hX hM lk_X4_54 rfl (c_X4_of (fr := fr - 1) hM.1 (by omega) o 2 ho (by decide)) rfl rfl (Nat.le_of_ble_eq_true rfl) (by omega) (by decide) (Nat.le_refl _) (Nat.le_refl _) dX4_allows_12 (fun hp hM => ?_)
      refine aw_ild1 hX dX4_allows_15 ?_
      refine aw_icmp_eq hX (tgt := 42) dX4_allows_16 (by decide) (fun c16 => ?_) (fun c16 => ?_)
      · refine aw_iconst (v := 1) hX dX4_allows_42 (by decide) ?_
        refine aw_goto hX (tgt := 47) dX4_allows_43 (by decide) ?_
        refine aw_zret hX (by first | rfl | exact bI_n _ | (split <;> rfl)) (Nat.le_refl _) (Nat.le_refl _) dX4_allows_47 (hq _ _ ?_)
        refine ⟨?_, hM⟩
        first
          | exact rv1 (by unfold mAllows; rw [decide_eq_true c1]; rfl)
          | exact rv1 (by unfold mAllows; rw [decide_eq_true c6, decide_eq_true c16]; simp)
          | exact rv1 (by unfold mAllows; rw [b29, b39]; simp)
          | exact rv0 (by unfold mAllows; rw [decide_eq_false c1, decide_eq_false c6, b39]; simp)
          | exact rv0 (by unfold mAllows; rw [decide_eq_false c1, decide_eq_false c16, b39]; simp)
          | exact rv0 (by unfold mAllows; rw [decide_eq_false c1, decide_eq_false c6, b29]; rfl)
          | exact rv0 (by unfold mAllows; rw [decide_eq_false c1, decide_eq_false c16, b29]; simp)
      · refine aw_ald0 hX dX4_allows_19 ?_
        refine aw_ild2 hX dX4_allows_20 ?_
        refine aw_iconst (v := 3) hX dX4_allows_21 (by decide) ?_
        refine mm_call hX hM lk_X4_54 rfl (c_X4_of (fr := fr - 1) hM.1 (by omega) o 3 ho (by decide)) rfl rfl (Nat.le_of_ble_eq_true rfl) (by omega) (by decide) (Nat.le_refl _) (Nat.le_refl _) dX4_allows_22 (fun hp hM => ?_)
        refine aw_ild3 hX dX4_allows_25 ?_
        refine ss_call hX lk_X4_65 (c_X4_has (fr := fr - 1) (by omega) _ _) rfl rfl (Nat.le_of_ble_eq_true rfl) (by omega) (by decide) (Nat.le_refl _) (Nat.le_refl _) dX4_allows_26 ?_
        refine aw_if_eq hX (tgt := 46) dX4_allows_29 (by decide) (fun c29 => ?_) (fun c29 => ?_)
        · have b29 := bI_0' c29
          refine aw_iconst (v := 0) hX dX4_allows_46 (by decide) ?_
          refine aw_zret hX (by first | rfl | exact bI_n _ | (split <;> rfl)) (Nat.le_refl _) (Nat.le_refl _) dX4_allows_47 (hq _ _ ?_)
          refine ⟨?_, hM⟩
          first
            | exact rv1 (by unfold mAllows; rw [decide_eq_true c1]; rfl)
            | exact rv1 (by unfold mAllows; rw [decide_eq_true c6, decide_eq_true c16]; simp)
            | exact rv1 (by unfold mAllows; rw [b29, b39]; simp)
            | exact rv0 (by unfold mAllows; rw [decide_eq_false c1, decide_eq_false c6, b39]; simp)
            | exact rv0 (by unfold mAllows; rw [decide_eq_false c1, decide_eq_false c16, b39]; simp)
            | exact rv0 (by unfold mAllows; rw [decide_eq_false c1, decide_eq_false c6, b29]; rfl)
            | exact rv0 (by unfold mAllows; rw [decide_eq_false c1, decide_eq_false c16, b29]; simp)
        · have b29 := bI_n0 c29
          refine aw_ald0 hX dX4_allows_32 ?_
          refine aw_ild1 hX dX4_allows_33 ?_
          refine aw_ild2 hX dX4_allows_34 ?_
          refine aw_ild3 hX dX4_allows_35 ?_
          refine mm_call hX hM lk_X4_147 rfl (c_X4_isByList (fr := fr - 1) hM.1 (by omega) ok u r o ho ho1) rfl rfl (Nat.le_of_ble_eq_true rfl) (by omega) (by decide) (Nat.le_refl _) (Nat.le_refl _) dX4_allows_36 (fun hp hM => ?_)
          refine aw_if_eq hX (tgt := 46) dX4_allows_39 (by decide) (fun c39 => ?_) (fun c39 => ?_)
          · have b39 := bI_0' c39
            refine aw_iconst (v := 0) hX dX4_allows_46 (by decide) ?_
            refine aw_zret hX (by first | rfl | exact bI_n _ | (split <;> rfl)) (Nat.le_refl _) (Nat.le_refl _) dX4_allows_47 (hq _ _ ?_)
            refine ⟨?_, hM⟩
            first
              | exact rv1 (by unfold mAllows; rw [decide_eq_true c1]; rfl)
              | exact rv1 (by unfold mAllows; rw [decide_eq_true c6, decide_eq_true c16]; simp)
              | exact rv1 (by unfold mAllows; rw [b29, b39]; simp)
              | exact rv0 (by unfold mAllows; rw [decide_eq_false c1, decide_eq_false c6, b39]; simp)
              | exact rv0 (by unfold mAllows; rw [decide_eq_false c1, decide_eq_false c16, b39]; simp)
              | exact rv0 (by unfold mAllows; rw [decide_eq_false c1, decide_eq_false c6, b29]; rfl)
              | exact rv0 (by unfold mAllows; rw [decide_eq_false c1, decide_eq_false c16, b29]; simp)
          · have b39 := bI_n0 c39
            refine aw_iconst (v := 1) hX dX4_allows_42 (by decide) ?_
            refine aw_goto hX (tgt := 47) dX4_allows_43 (by decide) ?_
            refine aw_zret hX (by first | rfl | exact bI_n _ | (split <;> rfl)) (Nat.le_refl _) (Nat.le_refl _) dX4_allows_47 (hq _ _ ?_)
            refine ⟨?_, hM⟩
            first
              | exact rv1 (by unfold mAllows; rw [decide_eq_true c1]; rfl)
              | exact rv1 (by unfold mAllows; rw [decide_eq_true c6, decide_eq_true c16]; simp)
              | exact rv1 (by unfold mAllows; rw [b29, b39]; simp)
              | exact rv0 (by unfold mAllows; rw [decide_eq_false c1, decide_eq_false c6, b39]; simp)
              | exact rv0 (by unfold mAllows; rw [decide_eq_false c1, decide_eq_false c16, b39]; simp)
              | exact rv0 (by unfold mAllows; rw [decide_eq_false c1, decide_eq_false c6, b29]; rfl)
              | exact rv0 (by unfold mAllows; rw [decide_eq_false c1, decide_eq_false c16, b29]; simp)
set_option maxHeartbeats 4000000 in
set_option maxRecDepth 100000 in
theorem c_X4_rights {D : Gd} {fr : Nat} {m : Nat} {ad : Nat → Nat} {S : Ms} {h : Hm} (hM : MW m ad S h) (hf : 7 ≤ fr) (ok : mWf (S.1 0)) (u : Int32) (o : Nat) (ho : o < 20) (ho1 : S.1 0 (mO o 0) = 1) : MC D fr yX4_rights cX4_rights 5 (some .int) m ad h [.int u, .int (nI o)] (some (.int (mRights (S.1 0) u o))) (S) := by
  refine AM.of (lv := [some (.ref m), some (.int u), some (.int (nI o)), none, none]) (by decide +kernel) (Nat.le_of_ble_eq_true rfl) rfl (fun z hX hq _ => ?_)
  have hM := hM.rf
  refine aw_iconst (v := 0) hX dX4_rights_0 (by decide) ?_
  refine aw_ist3 hX dX4_rights_1 (by decide) rfl ?_
  refine aw_iconst (v := 0) hX dX4_rights_2 (by decide) ?_
  refine aw_ist4 hX dX4_rights_3 (by decide) rfl ?_
  refine gdown (N := 4) (P := fun i => ∀ (h9 : Hm), MR m ad S h h9 → gW z 5 [some (.ref m), some (.int u), some (.int (nI o)), some (.int (mRt (S.1 0) u o i)), some (.int (nI i))] [] h9 0 0) (fun i hi ih h9 hM => ?_) 0 (Nat.zero_le _) _ hM
  refine aw_ild4 hX dX4_rights_5 ?_
  refine aw_iconst (v := 3) hX dX4_rights_7 (by decide) ?_
  refine aw_icmp_gt hX (tgt := 39) dX4_rights_8 (by decide) (fun c8 => ?_) (fun c8 => ?_)
  · have hi9 : i = 4 := by have := nlt (a := 3) c8 (by omega) (by omega); omega
    subst hi9
    refine aw_ild3 hX dX4_rights_39 ?_
    refine aw_iret hX (Nat.le_refl _) (Nat.le_refl _) dX4_rights_40 (hq _ _ ?_)
    exact ⟨rfl, hM⟩
  · have hlt : i < 4 := by have := nnlt (a := 3) c8 (by omega) (by omega); omega
    refine aw_ild3 hX dX4_rights_11 ?_
    refine aw_ald0 hX dX4_rights_12 ?_
    refine aw_ild1 hX dX4_rights_13 ?_
    refine aw_ild2 hX dX4_rights_14 ?_
    refine aw_ild4 hX dX4_rights_15 ?_
    refine mm_call hX hM lk_X4_150 rfl (c_X4_allows (fr := fr - 1) hM.1 (by omega) ok u (nI i) o ho ho1) rfl rfl (Nat.le_of_ble_eq_true rfl) (by omega) (by decide) (Nat.le_refl _) (Nat.le_refl _) dX4_rights_17 (fun hp hM => ?_)
    refine aw_if_eq hX (tgt := 30) dX4_rights_20 (by decide) (fun c20 => ?_) (fun c20 => ?_)
    · have b20 := bI_0' c20
      refine aw_iconst (v := 0) hX dX4_rights_30 (by decide) ?_
      refine aw_ior hX dX4_rights_31 ?_
      refine aw_ist3 hX dX4_rights_32 (by decide) rfl ?_
      refine aw_inc4 hX dX4_rights_33 (by decide) rfl ?_
      refine aw_goto hX (tgt := 5) dX4_rights_36 (by decide) ?_
      refine gW.to rfl ?_ rfl rfl (ih hlt _ hM)
      first | rw [show mRt (S.1 0) u o i ||| 1 <<< (nI i &&& 31) = mRt (S.1 0) u o (i + 1) from by simp only [mRt]; rw [b20]; rfl] | rw [show mRt (S.1 0) u o i ||| 0 = mRt (S.1 0) u o (i + 1) from by simp only [mRt]; rw [b20]; rfl]
    · have b20 := bI_n0 c20
      refine aw_iconst (v := 1) hX dX4_rights_23 (by decide) ?_
      refine aw_ild4 hX dX4_rights_24 ?_
      refine aw_ishl hX dX4_rights_26 ?_
      refine aw_goto hX (tgt := 31) dX4_rights_27 (by decide) ?_
      refine aw_ior hX dX4_rights_31 ?_
      refine aw_ist3 hX dX4_rights_32 (by decide) rfl ?_
      refine aw_inc4 hX dX4_rights_33 (by decide) rfl ?_
      refine aw_goto hX (tgt := 5) dX4_rights_36 (by decide) ?_
      refine gW.to rfl ?_ rfl rfl (ih hlt _ hM)
      first | rw [show mRt (S.1 0) u o i ||| 1 <<< (nI i &&& 31) = mRt (S.1 0) u o (i + 1) from by simp only [mRt]; rw [b20]; rfl] | rw [show mRt (S.1 0) u o i ||| 0 = mRt (S.1 0) u o (i + 1) from by simp only [mRt]; rw [b20]; rfl]
set_option maxHeartbeats 4000000 in
set_option maxRecDepth 100000 in
theorem c_X4_everything {D : Gd} {fr : Nat} {m : Nat} {ad : Nat → Nat} {S : Ms} {h : Hm} (hM : MW m ad S h) (hf : 8 ≤ fr) (ok : mWf (S.1 0)) : MC D fr yX4_everything cX4_everything 4 (some .int) m ad h [] (some (.int (mEv (S.1 0) (mN (S.1 0 0))))) (S) := by
  refine AM.of (lv := [some (.ref m), none, none, none]) (by decide +kernel) (Nat.le_of_ble_eq_true rfl) rfl (fun z hX hq _ => ?_)
  have hM := hM.rf
  obtain ⟨nu, hu1, hu2, eu⟩ := ok.u
  refine aw_iconst (v := 0) hX dX4_everything_0 (by decide) ?_
  refine aw_ist1 hX dX4_everything_1 (by decide) rfl ?_
  refine aw_iconst (v := 0) hX dX4_everything_2 (by decide) ?_
  refine aw_ist2 hX dX4_everything_3 (by decide) rfl ?_
  refine gdown (N := nu) (P := fun n => ∀ (v3 : Option Value) (h9 : Hm), MR m ad S h h9 → gW z 4 [some (.ref m), some (.int (mEv (S.1 0) n)), some (.int (nI n)), v3] [] h9 0 0) (fun n hn ih v3 h9 hM => ?_) 0 (Nat.zero_le _) _ _ hM
  refine aw_ild2 hX dX4_everything_4 ?_
  refine aw_ald0 hX dX4_everything_5 ?_
  refine mm_get hX hM fg_X4_7 rfl dX4_everything_6 ?_
  refine aw_iconst (v := 0) hX dX4_everything_9 (by decide) ?_
  refine mm_ld hX hM (by decide) (0) (rfl) (by decide) dX4_everything_10 ?_
  rw [eu]
  refine aw_icmp_ge hX (tgt := 58) dX4_everything_11 (by decide) (fun c11 => ?_) (fun c11 => ?_)
  · have hi9 : n = nu := Nat.le_antisymm hn (nle c11 (by omega) (by omega))
    subst hi9
    refine aw_ild1 hX dX4_everything_58 ?_
    refine aw_iret hX (Nat.le_refl _) (Nat.le_refl _) dX4_everything_59 (hq _ _ ?_)
    rw [eu, mN_i (by omega)]
    exact ⟨rfl, hM⟩
  · refine aw_iconst (v := 0) hX dX4_everything_14 (by decide) ?_
    refine aw_ist3 hX dX4_everything_15 (by decide) rfl ?_
    have hlt := nnle c11 (by omega) (by omega)
    refine gdown (N := 20) (P := fun j => ∀ (h9 : Hm), MR m ad S h h9 → gW z 16 [some (.ref m), some (.int (mEvI (S.1 0) n (mEv (S.1 0) n) j)), some (.int (nI n)), some (.int (nI j))] [] h9 0 0) (fun j hj ih2 h9 hM => ?_) 0 (Nat.zero_le _) _ hM
    refine aw_ild3 hX dX4_everything_16 ?_
    refine aw_bipush (v := 20) hX dX4_everything_17 (by decide) ?_
    refine aw_icmp_ge hX (tgt := 52) dX4_everything_19 (by decide) (fun c19 => ?_) (fun c19 => ?_)
    · refine aw_inc2 hX dX4_everything_52 (by decide) rfl ?_
      refine aw_goto hX (tgt := 4) dX4_everything_55 (by decide) ?_
      have hi9 : j = 20 := Nat.le_antisymm hj (nle (a := 20) c19 (by omega) (by omega))
      subst hi9
      exact ih hlt _ _ hM
    · have hlt2 := nnle (a := 20) c19 (by omega) (by omega)
      refine aw_ild1 hX dX4_everything_22 ?_
      refine aw_ald0 hX dX4_everything_23 ?_
      refine aw_ild3 hX dX4_everything_24 ?_
      refine mm_call hX hM lk_X4_57 rfl (c_X4_isObject (fr := fr - 1) hM.1 (by omega) _) rfl rfl (Nat.le_of_ble_eq_true rfl) (by omega) (by decide) (Nat.le_refl _) (Nat.le_refl _) dX4_everything_25 (fun hp hM => ?_)
      refine aw_if_eq hX (tgt := 43) dX4_everything_28 (by decide) (fun c28 => ?_) (fun c28 => ?_)
      · have b28 := bI_0' c28
        refine aw_iconst (v := 0) hX dX4_everything_43 (by decide) ?_
        refine aw_iadd hX dX4_everything_44 ?_
        refine aw_ist1 hX dX4_everything_45 (by decide) rfl ?_
        refine aw_inc3 hX dX4_everything_46 (by decide) rfl ?_
        refine aw_goto hX (tgt := 16) dX4_everything_49 (by decide) ?_
        refine gW.to rfl ?_ rfl rfl (ih2 hlt2 _ hM)
        first | rw [show mEvI (S.1 0) n (mEv (S.1 0) n) j + mSize (mRights (S.1 0) (nI n) j) = mEvI (S.1 0) n (mEv (S.1 0) n) (j + 1) from by simp only [mEvI]; rw [b28]; rfl] | rw [show mEvI (S.1 0) n (mEv (S.1 0) n) j + 0 = mEvI (S.1 0) n (mEv (S.1 0) n) (j + 1) from by simp only [mEvI]; rw [b28]; rfl]
      · have b28 := bI_n0 c28
        refine aw_ald0 hX dX4_everything_31 ?_
        refine aw_ild2 hX dX4_everything_32 ?_
        refine aw_ild3 hX dX4_everything_33 ?_
        refine mm_call hX hM lk_X4_119 rfl (c_X4_rights (fr := fr - 1) hM.1 (by omega) ok (nI n) j hlt2 (mObj_th hlt2 b28)) rfl rfl (Nat.le_of_ble_eq_true rfl) (by omega) (by decide) (Nat.le_refl _) (Nat.le_refl _) dX4_everything_34 (fun hp hM => ?_)
        refine ss_call hX lk_X4_153 (c_X4_size (fr := fr - 1) (by omega) _) rfl rfl (Nat.le_of_ble_eq_true rfl) (by omega) (by decide) (Nat.le_refl _) (Nat.le_refl _) dX4_everything_37 ?_
        refine aw_goto hX (tgt := 44) dX4_everything_40 (by decide) ?_
        refine aw_iadd hX dX4_everything_44 ?_
        refine aw_ist1 hX dX4_everything_45 (by decide) rfl ?_
        refine aw_inc3 hX dX4_everything_46 (by decide) rfl ?_
        refine aw_goto hX (tgt := 16) dX4_everything_49 (by decide) ?_
        refine gW.to rfl ?_ rfl rfl (ih2 hlt2 _ hM)
        first | rw [show mEvI (S.1 0) n (mEv (S.1 0) n) j + mSize (mRights (S.1 0) (nI n) j) = mEvI (S.1 0) n (mEv (S.1 0) n) (j + 1) from by simp only [mEvI]; rw [b28]; rfl] | rw [show mEvI (S.1 0) n (mEv (S.1 0) n) j + 0 = mEvI (S.1 0) n (mEv (S.1 0) n) (j + 1) from by simp only [mEvI]; rw [b28]; rfl]
set_option maxHeartbeats 4000000 in
set_option maxRecDepth 100000 in
theorem c_X4_notes {D : Gd} {fr : Nat} {m : Nat} {ad : Nat → Nat} {S : Ms} {h : Hm} (hM : MW m ad S h) (hf : 8 ≤ fr) (ok : mWf (S.1 0)) : MC D fr yX4_notes cX4_notes 2 none m ad h [] (none) (mNotes S) := by
  refine AM.of (lv := [some (.ref m), none]) (by decide +kernel) (Nat.le_of_ble_eq_true rfl) rfl (fun z hX hq _ => ?_)
  have hM := hM.rf
  refine aw_iconst (v := 0) hX dX4_notes_0 (by decide) ?_
  refine aw_ist1 hX dX4_notes_1 (by decide) rfl ?_
  refine gdown (N := 240) (P := fun i => ∀ (h9 : Hm), MR m ad (sA S 5 (fill (mNow (S.1 0)) (S.1 5) 0 i)) h h9 → gW z 2 [some (.ref m), some (.int (nI i))] [] h9 0 0) (fun i hi ih h9 hM => ?_) 0 (Nat.zero_le _) _ (hM.cg (by rw [fill_0]; exact (sA_self S 5).symm))
  refine aw_ild1 hX dX4_notes_2 ?_
  refine aw_sipush (v := 240) hX dX4_notes_3 (by decide) ?_
  refine aw_icmp_ge hX (tgt := 61) dX4_notes_6 (by decide) (fun c6 => ?_) (fun c6 => ?_)
  · refine aw_vret hX (Nat.le_refl _) (Nat.le_refl _) dX4_notes_61 (hq _ _ ?_)
    have hi9 : i = 240 := Nat.le_antisymm hi (nle (a := 240) c6 (by omega) (by omega))
    subst hi9
    exact ⟨rfl, hM⟩
  · have hlt := nnle (a := 240) c6 (by omega) (by omega)
    refine aw_ald0 hX dX4_notes_9 ?_
    refine mm_get hX hM fg_X4_26 rfl dX4_notes_10 ?_
    refine aw_ild1 hX dX4_notes_13 ?_
    refine aw_ild1 hX dX4_notes_14 ?_
    refine aw_bipush (v := 20) hX dX4_notes_15 (by decide) ?_
    refine aw_idiv hX dX4_notes_17 (by decide) ?_
    refine aw_ald0 hX dX4_notes_18 ?_
    refine mm_get hX hM fg_X4_7 rfl dX4_notes_19 ?_
    refine aw_iconst (v := 0) hX dX4_notes_22 (by decide) ?_
    refine mm_ld hX hM (by decide) (0) (rfl) (by decide) dX4_notes_23 ?_
    rw [d20 hlt]
    refine aw_icmp_ge hX (tgt := 53) dX4_notes_24 (by decide) (fun c24 => ?_) (fun c24 => ?_)
    · refine aw_iconst (v := 0) hX dX4_notes_53 (by decide) ?_
      refine mm_st hX hM (by decide) (i) (rfl) (by simp only [mLen]; omega) dX4_notes_54 (fun hp hM => ?_)
      refine aw_inc1 hX dX4_notes_55 (by decide) rfl ?_
      refine aw_goto hX (tgt := 2) dX4_notes_58 (by decide) ?_
      exact ih hlt _ (hM.cg (by rw [sA_sA, sA_at]; have h9 := fill_s (mNow (S.1 0)) (S.1 5) 0 i; rw [Nat.zero_add] at h9; rw [← h9]; refine congrArg (fun x => sA S 5 (upd (fill (mNow (S.1 0)) (S.1 5) 0 i) i x)) (Eq.symm ?_); first | exact mNow_t c24 b35 | exact mNow_f c24 | exact mNow_g b35))
    · refine aw_ald0 hX dX4_notes_27 ?_
      refine aw_ild1 hX dX4_notes_28 ?_
      refine aw_bipush (v := 20) hX dX4_notes_29 (by decide) ?_
      refine aw_irem hX dX4_notes_31 (by decide) ?_
      rw [r20 hlt]
      refine mm_call hX hM lk_X4_57 rfl (c_X4_isObject (fr := fr - 1) hM.1 (by omega) _) rfl rfl (Nat.le_of_ble_eq_true rfl) (by omega) (by decide) (Nat.le_refl _) (Nat.le_refl _) dX4_notes_32 (fun hp hM => ?_)
      refine aw_if_eq hX (tgt := 53) dX4_notes_35 (by decide) (fun c35 => ?_) (fun c35 => ?_)
      · have b35 := bI_0' c35
        refine aw_iconst (v := 0) hX dX4_notes_53 (by decide) ?_
        refine mm_st hX hM (by decide) (i) (rfl) (by simp only [mLen]; omega) dX4_notes_54 (fun hp hM => ?_)
        refine aw_inc1 hX dX4_notes_55 (by decide) rfl ?_
        refine aw_goto hX (tgt := 2) dX4_notes_58 (by decide) ?_
        exact ih hlt _ (hM.cg (by rw [sA_sA, sA_at]; have h9 := fill_s (mNow (S.1 0)) (S.1 5) 0 i; rw [Nat.zero_add] at h9; rw [← h9]; refine congrArg (fun x => sA S 5 (upd (fill (mNow (S.1 0)) (S.1 5) 0 i) i x)) (Eq.symm ?_); first | exact mNow_t c24 b35 | exact mNow_f c24 | exact mNow_g b35))
      · have b35 := bI_n0 c35
        refine aw_ald0 hX dX4_notes_38 ?_
        refine aw_ild1 hX dX4_notes_39 ?_
        refine aw_bipush (v := 20) hX dX4_notes_40 (by decide) ?_
        refine aw_idiv hX dX4_notes_42 (by decide) ?_
        refine aw_ild1 hX dX4_notes_43 ?_
        refine aw_bipush (v := 20) hX dX4_notes_44 (by decide) ?_
        refine aw_irem hX dX4_notes_46 (by decide) ?_
        rw [r20 hlt, d20 hlt]
        refine mm_call hX hM lk_X4_119 rfl (c_X4_rights (fr := fr - 1) hM.1 (by omega) ok (nI (i / 20)) (i % 20) (by omega) (mObj_th (by omega) b35)) rfl rfl (Nat.le_of_ble_eq_true rfl) (by omega) (by decide) (Nat.le_refl _) (Nat.le_refl _) dX4_notes_47 (fun hp hM => ?_)
        refine aw_goto hX (tgt := 54) dX4_notes_50 (by decide) ?_
        refine mm_st hX hM (by decide) (i) (rfl) (by simp only [mLen]; omega) dX4_notes_54 (fun hp hM => ?_)
        refine aw_inc1 hX dX4_notes_55 (by decide) rfl ?_
        refine aw_goto hX (tgt := 2) dX4_notes_58 (by decide) ?_
        exact ih hlt _ (hM.cg (by rw [sA_sA, sA_at]; have h9 := fill_s (mNow (S.1 0)) (S.1 5) 0 i; rw [Nat.zero_add] at h9; rw [← h9]; refine congrArg (fun x => sA S 5 (upd (fill (mNow (S.1 0)) (S.1 5) 0 i) i x)) (Eq.symm ?_); first | exact mNow_t c24 b35 | exact mNow_f c24 | exact mNow_g b35))
set_option maxHeartbeats 4000000 in
set_option maxRecDepth 100000 in
theorem c_X4_unlike {D : Gd} {fr : Nat} {m : Nat} {ad : Nat → Nat} {S : Ms} {h : Hm} (hM : MW m ad S h) (hf : 8 ≤ fr) (ok : mWf (S.1 0)) : MC D fr yX4_unlike cX4_unlike 5 (some .int) m ad h [] (some (.int (nI (mUnl (S.1 0) (S.1 5) 240)))) (S) := by
  refine AM.of (lv := [some (.ref m), none, none, none, none]) (by decide +kernel) (Nat.le_of_ble_eq_true rfl) rfl (fun z hX hq _ => ?_)
  have hM := hM.rf
  refine aw_iconst (v := 0) hX dX4_unlike_0 (by decide) ?_
  refine aw_ist1 hX dX4_unlike_1 (by decide) rfl ?_
  refine aw_iconst (v := 0) hX dX4_unlike_2 (by decide) ?_
  refine aw_ist2 hX dX4_unlike_3 (by decide) rfl ?_
  refine gdown (N := 240) (P := fun i => ∀ (v3 v4 : Option Value) (h9 : Hm), MR m ad S h h9 → gW z 4 [some (.ref m), some (.int (nI (mUnl (S.1 0) (S.1 5) i))), some (.int (nI i)), v3, v4] [] h9 0 0) (fun i hi ih v3 v4 h9 hM => ?_) 0 (Nat.zero_le _) _ _ _ hM
  refine aw_ild2 hX dX4_unlike_4 ?_
  refine aw_sipush (v := 240) hX dX4_unlike_5 (by decide) ?_
  refine aw_icmp_ge hX (tgt := 101) dX4_unlike_8 (by decide) (fun c8 => ?_) (fun c8 => ?_)
  · refine aw_ild1 hX dX4_unlike_101 ?_
    refine aw_iret hX (Nat.le_refl _) (Nat.le_refl _) dX4_unlike_102 (hq _ _ ?_)
    have hi9 : i = 240 := Nat.le_antisymm hi (nle (a := 240) c8 (by omega) (by omega))
    subst hi9
    exact ⟨rfl, hM⟩
  · have hlt := nnle (a := 240) c8 (by omega) (by omega)
    refine aw_ild2 hX dX4_unlike_11 ?_
    refine aw_bipush (v := 20) hX dX4_unlike_12 (by decide) ?_
    refine aw_idiv hX dX4_unlike_14 (by decide) ?_
    refine aw_ald0 hX dX4_unlike_15 ?_
    refine mm_get hX hM fg_X4_7 rfl dX4_unlike_16 ?_
    refine aw_iconst (v := 0) hX dX4_unlike_19 (by decide) ?_
    refine mm_ld hX hM (by decide) (0) (rfl) (by decide) dX4_unlike_20 ?_
    rw [d20 hlt]
    refine aw_icmp_ge hX (tgt := 50) dX4_unlike_21 (by decide) (fun c21 => ?_) (fun c21 => ?_)
    · refine aw_iconst (v := 0) hX dX4_unlike_50 (by decide) ?_
      refine aw_ist3 hX dX4_unlike_51 (by decide) rfl ?_
      refine aw_iconst (v := 0) hX dX4_unlike_52 (by decide) ?_
      refine aw_ist4 hX dX4_unlike_53 (by decide) rfl ?_
      refine gW.to rfl (show _ = [some (.ref m), some (.int (nI (mUnl (S.1 0) (S.1 5) i))), some (.int (nI i)), some (.int (mNow (S.1 0) i)), some (.int (nI 0))] from ?_) rfl rfl ?_
      · first | rw [mNow_t c21 b32] | rw [mNow_f c21] | rw [mNow_g b32]
        rfl
      refine gdown (N := 4) (P := fun j => ∀ (h9 : Hm), MR m ad S h h9 → gW z 55 [some (.ref m), some (.int (nI (mUnl (S.1 0) (S.1 5) i + cnt (mUb (S.1 0) (S.1 5) i) j))), some (.int (nI i)), some (.int (mNow (S.1 0) i)), some (.int (nI j))] [] h9 0 0) (fun j hj ih2 h9 hM => ?_) 0 (Nat.zero_le _) _ hM
      refine aw_ild4 hX dX4_unlike_55 ?_
      refine aw_iconst (v := 3) hX dX4_unlike_57 (by decide) ?_
      refine aw_icmp_gt hX (tgt := 95) dX4_unlike_58 (by decide) (fun c58 => ?_) (fun c58 => ?_)
      · refine aw_inc2 hX dX4_unlike_95 (by decide) rfl ?_
        refine aw_goto hX (tgt := 4) dX4_unlike_98 (by decide) ?_
        have hj9 : j = 4 := by have := nlt (a := 3) c58 (by omega) (by omega); omega
        subst hj9
        exact ih hlt _ _ _ hM
      · have hlt2 : j < 4 := by have := nnlt (a := 3) c58 (by omega) (by omega); omega
        refine aw_ild1 hX dX4_unlike_61 ?_
        refine aw_ild3 hX dX4_unlike_62 ?_
        refine aw_ild4 hX dX4_unlike_63 ?_
        refine ss_call hX lk_X4_65 (c_X4_has (fr := fr - 1) (by omega) _ _) rfl rfl (Nat.le_of_ble_eq_true rfl) (by omega) (by decide) (Nat.le_refl _) (Nat.le_refl _) dX4_unlike_65 ?_
        refine aw_ald0 hX dX4_unlike_68 ?_
        refine mm_get hX hM fg_X4_26 rfl dX4_unlike_69 ?_
        refine aw_ild2 hX dX4_unlike_72 ?_
        refine mm_ld hX hM (by decide) (i) (rfl) (by simp only [mLen]; omega) dX4_unlike_73 ?_
        refine aw_ild4 hX dX4_unlike_74 ?_
        refine ss_call hX lk_X4_65 (c_X4_has (fr := fr - 1) (by omega) _ _) rfl rfl (Nat.le_of_ble_eq_true rfl) (by omega) (by decide) (Nat.le_refl _) (Nat.le_refl _) dX4_unlike_76 ?_
        refine aw_icmp_ne hX (tgt := 86) dX4_unlike_79 (by decide) (fun c79 => ?_) (fun c79 => ?_)
        · refine aw_iconst (v := 1) hX dX4_unlike_86 (by decide) ?_
          refine aw_iadd hX dX4_unlike_87 ?_
          refine aw_ist1 hX dX4_unlike_88 (by decide) rfl ?_
          refine aw_inc4 hX dX4_unlike_89 (by decide) rfl ?_
          refine aw_goto hX (tgt := 55) dX4_unlike_92 (by decide) ?_
          refine gW.to rfl ?_ rfl rfl (ih2 hlt2 _ hM)
          first | rw [cnt_f' (f := mUb (S.1 0) (S.1 5) i) (bI_eq c79)] | rw [cnt_t' (f := mUb (S.1 0) (S.1 5) i) (bI_ne c79)]
        · refine aw_iconst (v := 0) hX dX4_unlike_82 (by decide) ?_
          refine aw_goto hX (tgt := 87) dX4_unlike_83 (by decide) ?_
          refine aw_iadd hX dX4_unlike_87 ?_
          refine aw_ist1 hX dX4_unlike_88 (by decide) rfl ?_
          refine aw_inc4 hX dX4_unlike_89 (by decide) rfl ?_
          refine aw_goto hX (tgt := 55) dX4_unlike_92 (by decide) ?_
          refine gW.to rfl ?_ rfl rfl (ih2 hlt2 _ hM)
          first | rw [cnt_f' (f := mUb (S.1 0) (S.1 5) i) (bI_eq c79)] | rw [cnt_t' (f := mUb (S.1 0) (S.1 5) i) (bI_ne c79)]
    · refine aw_ald0 hX dX4_unlike_24 ?_
      refine aw_ild2 hX dX4_unlike_25 ?_
      refine aw_bipush (v := 20) hX dX4_unlike_26 (by decide) ?_
      refine aw_irem hX dX4_unlike_28 (by decide) ?_
      rw [r20 hlt]
      refine mm_call hX hM lk_X4_57 rfl (c_X4_isObject (fr := fr - 1) hM.1 (by omega) _) rfl rfl (Nat.le_of_ble_eq_true rfl) (by omega) (by decide) (Nat.le_refl _) (Nat.le_refl _) dX4_unlike_29 (fun hp hM => ?_)
      refine aw_if_eq hX (tgt := 50) dX4_unlike_32 (by decide) (fun c32 => ?_) (fun c32 => ?_)
      · have b32 := bI_0' c32
        refine aw_iconst (v := 0) hX dX4_unlike_50 (by decide) ?_
        refine aw_ist3 hX dX4_unlike_51 (by decide) rfl ?_
        refine aw_iconst (v := 0) hX dX4_unlike_52 (by decide) ?_
        refine aw_ist4 hX dX4_unlike_53 (by decide) rfl ?_
        refine gW.to rfl (show _ = [some (.ref m), some (.int (nI (mUnl (S.1 0) (S.1 5) i))), some (.int (nI i)), some (.int (mNow (S.1 0) i)), some (.int (nI 0))] from ?_) rfl rfl ?_
        · first | rw [mNow_t c21 b32] | rw [mNow_f c21] | rw [mNow_g b32]
          rfl
        refine gdown (N := 4) (P := fun j => ∀ (h9 : Hm), MR m ad S h h9 → gW z 55 [some (.ref m), some (.int (nI (mUnl (S.1 0) (S.1 5) i + cnt (mUb (S.1 0) (S.1 5) i) j))), some (.int (nI i)), some (.int (mNow (S.1 0) i)), some (.int (nI j))] [] h9 0 0) (fun j hj ih2 h9 hM => ?_) 0 (Nat.zero_le _) _ hM
        refine aw_ild4 hX dX4_unlike_55 ?_
        refine aw_iconst (v := 3) hX dX4_unlike_57 (by decide) ?_
        refine aw_icmp_gt hX (tgt := 95) dX4_unlike_58 (by decide) (fun c58 => ?_) (fun c58 => ?_)
        · refine aw_inc2 hX dX4_unlike_95 (by decide) rfl ?_
          refine aw_goto hX (tgt := 4) dX4_unlike_98 (by decide) ?_
          have hj9 : j = 4 := by have := nlt (a := 3) c58 (by omega) (by omega); omega
          subst hj9
          exact ih hlt _ _ _ hM
        · have hlt2 : j < 4 := by have := nnlt (a := 3) c58 (by omega) (by omega); omega
          refine aw_ild1 hX dX4_unlike_61 ?_
          refine aw_ild3 hX dX4_unlike_62 ?_
          refine aw_ild4 hX dX4_unlike_63 ?_
          refine ss_call hX lk_X4_65 (c_X4_has (fr := fr - 1) (by omega) _ _) rfl rfl (Nat.le_of_ble_eq_true rfl) (by omega) (by decide) (Nat.le_refl _) (Nat.le_refl _) dX4_unlike_65 ?_
          refine aw_ald0 hX dX4_unlike_68 ?_
          refine mm_get hX hM fg_X4_26 rfl dX4_unlike_69 ?_
          refine aw_ild2 hX dX4_unlike_72 ?_
          refine mm_ld hX hM (by decide) (i) (rfl) (by simp only [mLen]; omega) dX4_unlike_73 ?_
          refine aw_ild4 hX dX4_unlike_74 ?_
          refine ss_call hX lk_X4_65 (c_X4_has (fr := fr - 1) (by omega) _ _) rfl rfl (Nat.le_of_ble_eq_true rfl) (by omega) (by decide) (Nat.le_refl _) (Nat.le_refl _) dX4_unlike_76 ?_
          refine aw_icmp_ne hX (tgt := 86) dX4_unlike_79 (by decide) (fun c79 => ?_) (fun c79 => ?_)
          · refine aw_iconst (v := 1) hX dX4_unlike_86 (by decide) ?_
            refine aw_iadd hX dX4_unlike_87 ?_
            refine aw_ist1 hX dX4_unlike_88 (by decide) rfl ?_
            refine aw_inc4 hX dX4_unlike_89 (by decide) rfl ?_
            refine aw_goto hX (tgt := 55) dX4_unlike_92 (by decide) ?_
            refine gW.to rfl ?_ rfl rfl (ih2 hlt2 _ hM)
            first | rw [cnt_f' (f := mUb (S.1 0) (S.1 5) i) (bI_eq c79)] | rw [cnt_t' (f := mUb (S.1 0) (S.1 5) i) (bI_ne c79)]
          · refine aw_iconst (v := 0) hX dX4_unlike_82 (by decide) ?_
            refine aw_goto hX (tgt := 87) dX4_unlike_83 (by decide) ?_
            refine aw_iadd hX dX4_unlike_87 ?_
            refine aw_ist1 hX dX4_unlike_88 (by decide) rfl ?_
            refine aw_inc4 hX dX4_unlike_89 (by decide) rfl ?_
            refine aw_goto hX (tgt := 55) dX4_unlike_92 (by decide) ?_
            refine gW.to rfl ?_ rfl rfl (ih2 hlt2 _ hM)
            first | rw [cnt_f' (f := mUb (S.1 0) (S.1 5) i) (bI_eq c79)] | rw [cnt_t' (f := mUb (S.1 0) (S.1 5) i) (bI_ne c79)]
      · have b32 := bI_n0 c32
        refine aw_ald0 hX dX4_unlike_35 ?_
        refine aw_ild2 hX dX4_unlike_36 ?_
        refine aw_bipush (v := 20) hX dX4_unlike_37 (by decide) ?_
        refine aw_idiv hX dX4_unlike_39 (by decide) ?_
        refine aw_ild2 hX dX4_unlike_40 ?_
        refine aw_bipush (v := 20) hX dX4_unlike_41 (by decide) ?_
        refine aw_irem hX dX4_unlike_43 (by decide) ?_
        rw [r20 hlt, d20 hlt]
        refine mm_call hX hM lk_X4_119 rfl (c_X4_rights (fr := fr - 1) hM.1 (by omega) ok (nI (i / 20)) (i % 20) (by omega) (mObj_th (by omega) b32)) rfl rfl (Nat.le_of_ble_eq_true rfl) (by omega) (by decide) (Nat.le_refl _) (Nat.le_refl _) dX4_unlike_44 (fun hp hM => ?_)
        refine aw_goto hX (tgt := 51) dX4_unlike_47 (by decide) ?_
        refine aw_ist3 hX dX4_unlike_51 (by decide) rfl ?_
        refine aw_iconst (v := 0) hX dX4_unlike_52 (by decide) ?_
        refine aw_ist4 hX dX4_unlike_53 (by decide) rfl ?_
        refine gW.to rfl (show _ = [some (.ref m), some (.int (nI (mUnl (S.1 0) (S.1 5) i))), some (.int (nI i)), some (.int (mNow (S.1 0) i)), some (.int (nI 0))] from ?_) rfl rfl ?_
        · first | rw [mNow_t c21 b32] | rw [mNow_f c21] | rw [mNow_g b32]
          rfl
        refine gdown (N := 4) (P := fun j => ∀ (h9 : Hm), MR m ad S h h9 → gW z 55 [some (.ref m), some (.int (nI (mUnl (S.1 0) (S.1 5) i + cnt (mUb (S.1 0) (S.1 5) i) j))), some (.int (nI i)), some (.int (mNow (S.1 0) i)), some (.int (nI j))] [] h9 0 0) (fun j hj ih2 h9 hM => ?_) 0 (Nat.zero_le _) _ hM
        refine aw_ild4 hX dX4_unlike_55 ?_
        refine aw_iconst (v := 3) hX dX4_unlike_57 (by decide) ?_
        refine aw_icmp_gt hX (tgt := 95) dX4_unlike_58 (by decide) (fun c58 => ?_) (fun c58 => ?_)
        · refine aw_inc2 hX dX4_unlike_95 (by decide) rfl ?_
          refine aw_goto hX (tgt := 4) dX4_unlike_98 (by decide) ?_
          have hj9 : j = 4 := by have := nlt (a := 3) c58 (by omega) (by omega); omega
          subst hj9
          exact ih hlt _ _ _ hM
        · have hlt2 : j < 4 := by have := nnlt (a := 3) c58 (by omega) (by omega); omega
          refine aw_ild1 hX dX4_unlike_61 ?_
          refine aw_ild3 hX dX4_unlike_62 ?_
          refine aw_ild4 hX dX4_unlike_63 ?_
          refine ss_call hX lk_X4_65 (c_X4_has (fr := fr - 1) (by omega) _ _) rfl rfl (Nat.le_of_ble_eq_true rfl) (by omega) (by decide) (Nat.le_refl _) (Nat.le_refl _) dX4_unlike_65 ?_
          refine aw_ald0 hX dX4_unlike_68 ?_
          refine mm_get hX hM fg_X4_26 rfl dX4_unlike_69 ?_
          refine aw_ild2 hX dX4_unlike_72 ?_
          refine mm_ld hX hM (by decide) (i) (rfl) (by simp only [mLen]; omega) dX4_unlike_73 ?_
          refine aw_ild4 hX dX4_unlike_74 ?_
          refine ss_call hX lk_X4_65 (c_X4_has (fr := fr - 1) (by omega) _ _) rfl rfl (Nat.le_of_ble_eq_true rfl) (by omega) (by decide) (Nat.le_refl _) (Nat.le_refl _) dX4_unlike_76 ?_
          refine aw_icmp_ne hX (tgt := 86) dX4_unlike_79 (by decide) (fun c79 => ?_) (fun c79 => ?_)
          · refine aw_iconst (v := 1) hX dX4_unlike_86 (by decide) ?_
            refine aw_iadd hX dX4_unlike_87 ?_
            refine aw_ist1 hX dX4_unlike_88 (by decide) rfl ?_
            refine aw_inc4 hX dX4_unlike_89 (by decide) rfl ?_
            refine aw_goto hX (tgt := 55) dX4_unlike_92 (by decide) ?_
            refine gW.to rfl ?_ rfl rfl (ih2 hlt2 _ hM)
            first | rw [cnt_f' (f := mUb (S.1 0) (S.1 5) i) (bI_eq c79)] | rw [cnt_t' (f := mUb (S.1 0) (S.1 5) i) (bI_ne c79)]
          · refine aw_iconst (v := 0) hX dX4_unlike_82 (by decide) ?_
            refine aw_goto hX (tgt := 87) dX4_unlike_83 (by decide) ?_
            refine aw_iadd hX dX4_unlike_87 ?_
            refine aw_ist1 hX dX4_unlike_88 (by decide) rfl ?_
            refine aw_inc4 hX dX4_unlike_89 (by decide) rfl ?_
            refine aw_goto hX (tgt := 55) dX4_unlike_92 (by decide) ?_
            refine gW.to rfl ?_ rfl rfl (ih2 hlt2 _ hM)
            first | rw [cnt_f' (f := mUb (S.1 0) (S.1 5) i) (bI_eq c79)] | rw [cnt_t' (f := mUb (S.1 0) (S.1 5) i) (bI_ne c79)]
