/-! THE REFERENCE, printed by m8.py: entries added and taken out -/
set_option maxHeartbeats 4000000 in
set_option maxRecDepth 100000 in
theorem c_X4_adds_0 {D : Gd} {fr : Nat} {m : Nat} {ad : Nat → Nat} {S : Ms} {h : Hm} (hM : MW m ad S h) (hf : 4 ≤ fr) (ok : MOk S) (o w r : Int32) (a b : Bool) : MC D fr yX4_adds cX4_adds 8 (some .int) m ad h [.int o, .int 0, .int w, .int r, .int (bI a), .int (bI b)] (some (.int (mop_adds S o 0 w r a b).2.1)) ((mop_adds S o 0 w r a b).2.2) := by
  refine AM.of (lv := [some (.ref m), some (.int o), some (.int 0), some (.int w), some (.int r), some (.int (bI a)), some (.int (bI b)), none]) (by decide +kernel) (Nat.le_of_ble_eq_true rfl) rfl (fun z hX hq _ => ?_)
  have hM := hM.rf
  refine aw_ald0 hX dX4_adds_0 ?_
  refine aw_iconst (v := 0) hX dX4_adds_1 (by decide) ?_
  refine mm_put hX hM 1 fp_X4_39 (by decide) dX4_adds_2 (fun hp hM => ?_)
  refine aw_ald0 hX dX4_adds_5 ?_
  refine aw_ild1 hX dX4_adds_6 ?_
  refine mm_call hX hM lk_X4_57 rfl (c_X4_isObject (fr := fr - 1) hM.1 (by omega) _) rfl rfl (Nat.le_of_ble_eq_true rfl) (by omega) (by decide) (Nat.le_refl _) (Nat.le_refl _) dX4_adds_7 (fun hp hM => ?_)
  refine aw_if_eq hX (tgt := 42) dX4_adds_10 (by decide) (fun c10 => ?_) (fun c10 => ?_)
  · have b10 := bI_0' c10
    refine aw_iconst (v := 0) hX dX4_adds_42 (by decide) ?_
    refine aw_ist7 hX dX4_adds_43 (by decide) rfl ?_
    refine aw_ild7 hX dX4_adds_45 ?_
    refine aw_if_ne hX (tgt := 56) dX4_adds_47 (by decide) (fun c => absurd (rfl) c) (fun _ => ?_)
    refine aw_ald0 hX dX4_adds_50 ?_
    refine aw_iconst (v := 1) hX dX4_adds_51 (by decide) ?_
    refine mm_call hX hM lk_X4_76 rfl (c_X4_fails (fr := fr - 1) hM.1 (by omega) _) rfl rfl (Nat.le_of_ble_eq_true rfl) (by omega) (by decide) (Nat.le_refl _) (Nat.le_refl _) dX4_adds_52 (fun hp hM => ?_)
    refine aw_iret hX (Nat.le_refl _) (Nat.le_refl _) dX4_adds_55 (hq _ _ ?_)
    first
      | (have e9 : mop_adds S o 0 w r a b = mBad S 1 := by (unfold mop_adds; simp [show mObj (S.1 0) o = false from b10])
         rw [e9]
         exact ⟨rfl, hM.cg (sV_sV S 1 0 1)⟩)
      | (have e9 : mop_adds S o 0 w r a b = mBad S 1 := by (unfold mop_adds; simp [show mObj (S.1 0) o = true from b10, show mUser (S.1 0) w = false from b22])
         rw [e9]
         exact ⟨rfl, hM.cg (sV_sV S 1 0 1)⟩)
  · have b10 := bI_n0 c10
    refine aw_ild2 hX dX4_adds_13 ?_
    refine aw_if_ne hX (tgt := 25) dX4_adds_14 (by decide) (fun c => absurd (rfl) c) (fun _ => ?_)
    refine aw_ald0 hX dX4_adds_17 ?_
    refine aw_ild3 hX dX4_adds_18 ?_
    refine mm_call hX hM lk_X4_82 rfl (c_X4_isUser (fr := fr - 1) hM.1 (by omega) _) rfl rfl (Nat.le_of_ble_eq_true rfl) (by omega) (by decide) (Nat.le_refl _) (Nat.le_refl _) dX4_adds_19 (fun hp hM => ?_)
    refine aw_if_eq hX (tgt := 42) dX4_adds_22 (by decide) (fun c22 => ?_) (fun c22 => ?_)
    · have b22 := bI_0' c22
      refine aw_iconst (v := 0) hX dX4_adds_42 (by decide) ?_
      refine aw_ist7 hX dX4_adds_43 (by decide) rfl ?_
      refine aw_ild7 hX dX4_adds_45 ?_
      refine aw_if_ne hX (tgt := 56) dX4_adds_47 (by decide) (fun c => absurd (rfl) c) (fun _ => ?_)
      refine aw_ald0 hX dX4_adds_50 ?_
      refine aw_iconst (v := 1) hX dX4_adds_51 (by decide) ?_
      refine mm_call hX hM lk_X4_76 rfl (c_X4_fails (fr := fr - 1) hM.1 (by omega) _) rfl rfl (Nat.le_of_ble_eq_true rfl) (by omega) (by decide) (Nat.le_refl _) (Nat.le_refl _) dX4_adds_52 (fun hp hM => ?_)
      refine aw_iret hX (Nat.le_refl _) (Nat.le_refl _) dX4_adds_55 (hq _ _ ?_)
      first
        | (have e9 : mop_adds S o 0 w r a b = mBad S 1 := by (unfold mop_adds; simp [show mObj (S.1 0) o = false from b10])
           rw [e9]
           exact ⟨rfl, hM.cg (sV_sV S 1 0 1)⟩)
        | (have e9 : mop_adds S o 0 w r a b = mBad S 1 := by (unfold mop_adds; simp [show mObj (S.1 0) o = true from b10, show mUser (S.1 0) w = false from b22])
           rw [e9]
           exact ⟨rfl, hM.cg (sV_sV S 1 0 1)⟩)
    · have b22 := bI_n0 c22
      refine aw_ild2 hX dX4_adds_25 ?_
      refine aw_iconst (v := 1) hX dX4_adds_26 (by decide) ?_
      refine aw_icmp_ne hX (tgt := 38) dX4_adds_27 (by decide) (fun _ => ?_) (fun c => absurd c (by decide))
      refine aw_iconst (v := 1) hX dX4_adds_38 (by decide) ?_
      refine aw_goto hX (tgt := 43) dX4_adds_39 (by decide) ?_
      refine aw_ist7 hX dX4_adds_43 (by decide) rfl ?_
      refine aw_ild7 hX dX4_adds_45 ?_
      refine aw_if_ne hX (tgt := 56) dX4_adds_47 (by decide) (fun _ => ?_) (fun c => absurd c (by decide))
      obtain ⟨o, ho, rfl, ho1⟩ := mObj_of b10
      obtain ⟨rk, hrk, hob⟩ := ok.rk
      obtain ⟨-, -, c, hc, ec, -⟩ := hob o ho ho1
      refine aw_ild4 hX dX4_adds_56 ?_
      refine ss_call hX lk_X4_101 (c_X4_areRights (fr := fr - 1) (by omega) _) rfl rfl (Nat.le_of_ble_eq_true rfl) (by omega) (by decide) (Nat.le_refl _) (Nat.le_refl _) dX4_adds_58 ?_
      refine aw_if_ne hX (tgt := 70) dX4_adds_61 (by decide) (fun c61 => ?_) (fun c61 => ?_)
      · have b61 := bI_n0 c61
        refine aw_ald0 hX dX4_adds_70 ?_
        refine aw_ild1 hX dX4_adds_71 ?_
        refine aw_iconst (v := 5) hX dX4_adds_72 (by decide) ?_
        refine mm_call hX hM lk_X4_54 rfl (c_X4_of (fr := fr - 1) hM.1 (by omega) o 5 ho (by decide)) rfl rfl (Nat.le_of_ble_eq_true rfl) (by omega) (by decide) (Nat.le_refl _) (Nat.le_refl _) dX4_adds_73 (fun hp hM => ?_)
        refine aw_bipush (v := 6) hX dX4_adds_76 (by decide) ?_
        refine aw_icmp_ne hX (tgt := 87) dX4_adds_78 (by decide) (fun c78 => ?_) (fun c78 => ?_)
        · have hc6 : c < 6 := by
            rcases Nat.lt_or_ge c 6 with q | q
            · exact q
            · exfalso
              have : c = 6 := by omega
              subst this
              exact c78 ec
          refine aw_ald0 hX dX4_adds_87 ?_
          refine mm_call hX hM lk_X4_79 rfl (c_X4_changes (fr := fr - 1) hM.1 (by omega) ok.p) rfl rfl (Nat.le_of_ble_eq_true rfl) (by omega) (by decide) (Nat.le_refl _) (Nat.le_refl _) dX4_adds_88 (fun hp hM => ?_)
          refine aw_ald0 hX dX4_adds_91 ?_
          refine mm_get hX hM fg_X4_7 rfl dX4_adds_92 ?_
          refine aw_ild1 hX dX4_adds_95 ?_
          refine aw_iconst (v := 5) hX dX4_adds_96 (by decide) ?_
          refine ss_call hX lk_X4_50 (c_X4_at (fr := fr - 1) (by omega) _ _) rfl rfl (Nat.le_of_ble_eq_true rfl) (by omega) (by decide) (Nat.le_refl _) (Nat.le_refl _) dX4_adds_97 ?_
          refine aw_dup2 hX dX4_adds_100 rfl rfl ?_
          refine mm_ld hX hM (by decide) (mO o 5) (mO_i o 5) (mO_lt ho (by decide)) dX4_adds_101 ?_
          refine aw_iconst (v := 1) hX dX4_adds_102 (by decide) ?_
          refine aw_iadd hX dX4_adds_103 ?_
          refine mm_st hX hM (by decide) (mO o 5) (mO_i o 5) (mO_lt ho (by decide)) dX4_adds_104 (fun hp hM => ?_)
          refine aw_ald0 hX dX4_adds_105 ?_
          refine aw_ild1 hX dX4_adds_106 ?_
          refine aw_ald0 hX dX4_adds_107 ?_
          refine aw_ild1 hX dX4_adds_108 ?_
          refine aw_iconst (v := 5) hX dX4_adds_109 (by decide) ?_
          refine mm_call hX hM lk_X4_54 rfl (c_X4_of (fr := fr - 1) hM.1 (by omega) o 5 ho (by decide)) rfl rfl (Nat.le_of_ble_eq_true rfl) (by omega) (by decide) (Nat.le_refl _) (Nat.le_refl _) dX4_adds_110 (fun hp hM => ?_)
          have hcnt : (sA (mC S) 0 (upd (S.1 0) (mO o 5) (S.1 0 (mO o 5) + 1))).1 0 (mO o 5) - 1 = nI c := by rw [sA_at, pk_us, ec, nI_1]; exact nI_pred c
          refine aw_iconst (v := 1) hX dX4_adds_113 (by decide) ?_
          refine aw_isub hX dX4_adds_114 ?_
          rw [show (sA (mChg (sV S 1 0)) 0 (upd ((mChg (sV S 1 0)).1 0) (mO o 5) ((mChg (sV S 1 0)).1 0 (mO o 5) + 1))).1 0 (mO o 5) - 1 = nI c from hcnt]
          refine aw_ild2 hX dX4_adds_115 ?_
          refine aw_ild3 hX dX4_adds_116 ?_
          refine aw_ild4 hX dX4_adds_117 ?_
          refine aw_ild5 hX dX4_adds_119 ?_
          refine aw_ild6 hX dX4_adds_121 ?_
          refine mm_call hX hM lk_X4_104 rfl (c_X4_writes (fr := fr - 1) hM.1 (by omega) o c 0 w r a b ho hc6) rfl rfl (Nat.le_of_ble_eq_true rfl) (by omega) (by decide) (Nat.le_refl _) (Nat.le_refl _) dX4_adds_123 (fun hp hM => ?_)
          refine aw_ald0 hX dX4_adds_126 ?_
          refine aw_ild1 hX dX4_adds_127 ?_
          refine aw_iconst (v := 5) hX dX4_adds_128 (by decide) ?_
          refine mm_call hX hM lk_X4_54 rfl (c_X4_of (fr := fr - 1) hM.1 (by omega) o 5 ho (by decide)) rfl rfl (Nat.le_of_ble_eq_true rfl) (by omega) (by decide) (Nat.le_refl _) (Nat.le_refl _) dX4_adds_129 (fun hp hM => ?_)
          refine aw_iret hX (Nat.le_refl _) (Nat.le_refl _) dX4_adds_132 (hq _ _ ?_)
          first
            | (have e9 : mop_adds S (nI o) 0 w r a b = (0, S.1 0 (mO o 5) + 1, sA (mC S) 0 (mWr (upd (S.1 0) (mO o 5) (S.1 0 (mO o 5) + 1)) o c 0 w r a b)) := by (unfold mop_adds; simp [show mObj (S.1 0) (nI o) = true from b10, show mUser (S.1 0) w = true from b22, of_decide_eq_true b61, nI_clamp (show o < 2 ^ 31 by omega), show ¬ nI c = 6 from (fun q => c78 (ec.trans q)), mCo, mN, ec, nI_clamp (show c < 2 ^ 31 by omega)])
               rw [e9]
               exact ⟨by rw [sA_at]; refine congrArg (fun x => some (Value.int x)) ?_; show mWr (upd (S.1 0) (mO o 5) (S.1 0 (mO o 5) + 1)) o c _ w r a b (mO o 5) = _; unfold mWr; rw [pk_un (by unfold mE mO; omega), pk_un (by unfold mE mO; omega), pk_un (by unfold mE mO; omega), pk_un (by unfold mE mO; omega), pk_un (by unfold mE mO; omega), pk_us], hM.cg (by rw [sA_sA, sA_at]; rfl)⟩)
        · refine aw_ald0 hX dX4_adds_81 ?_
          refine aw_iconst (v := 3) hX dX4_adds_82 (by decide) ?_
          refine mm_call hX hM lk_X4_76 rfl (c_X4_fails (fr := fr - 1) hM.1 (by omega) _) rfl rfl (Nat.le_of_ble_eq_true rfl) (by omega) (by decide) (Nat.le_refl _) (Nat.le_refl _) dX4_adds_83 (fun hp hM => ?_)
          refine aw_iret hX (Nat.le_refl _) (Nat.le_refl _) dX4_adds_86 (hq _ _ ?_)
          first
            | (have e9 : mop_adds S (nI o) 0 w r a b = mBad S 3 := by (unfold mop_adds; simp [show mObj (S.1 0) (nI o) = true from b10, show mUser (S.1 0) w = true from b22, of_decide_eq_true b61, nI_clamp (show o < 2 ^ 31 by omega), show S.1 0 (mO o 5) = 6 from c78])
               rw [e9]
               exact ⟨rfl, hM.cg (sV_sV S 1 0 3)⟩)
      · have b61 := bI_0' c61
        refine aw_ald0 hX dX4_adds_64 ?_
        refine aw_iconst (v := 2) hX dX4_adds_65 (by decide) ?_
        refine mm_call hX hM lk_X4_76 rfl (c_X4_fails (fr := fr - 1) hM.1 (by omega) _) rfl rfl (Nat.le_of_ble_eq_true rfl) (by omega) (by decide) (Nat.le_refl _) (Nat.le_refl _) dX4_adds_66 (fun hp hM => ?_)
        refine aw_iret hX (Nat.le_refl _) (Nat.le_refl _) dX4_adds_69 (hq _ _ ?_)
        first
          | (have e9 : mop_adds S (nI o) 0 w r a b = mBad S 2 := by (unfold mop_adds; simp [show mObj (S.1 0) (nI o) = true from b10, show mUser (S.1 0) w = true from b22, of_decide_eq_false b61])
             rw [e9]
             exact ⟨rfl, hM.cg (sV_sV S 1 0 2)⟩)
set_option maxHeartbeats 4000000 in
set_option maxRecDepth 100000 in
theorem c_X4_adds_1 {D : Gd} {fr : Nat} {m : Nat} {ad : Nat → Nat} {S : Ms} {h : Hm} (hM : MW m ad S h) (hf : 4 ≤ fr) (ok : MOk S) (o w r : Int32) (a b : Bool) : MC D fr yX4_adds cX4_adds 8 (some .int) m ad h [.int o, .int 1, .int w, .int r, .int (bI a), .int (bI b)] (some (.int (mop_adds S o 1 w r a b).2.1)) ((mop_adds S o 1 w r a b).2.2) := by
  refine AM.of (lv := [some (.ref m), some (.int o), some (.int 1), some (.int w), some (.int r), some (.int (bI a)), some (.int (bI b)), none]) (by decide +kernel) (Nat.le_of_ble_eq_true rfl) rfl (fun z hX hq _ => ?_)
  have hM := hM.rf
  refine aw_ald0 hX dX4_adds_0 ?_
  refine aw_iconst (v := 0) hX dX4_adds_1 (by decide) ?_
  refine mm_put hX hM 1 fp_X4_39 (by decide) dX4_adds_2 (fun hp hM => ?_)
  refine aw_ald0 hX dX4_adds_5 ?_
  refine aw_ild1 hX dX4_adds_6 ?_
  refine mm_call hX hM lk_X4_57 rfl (c_X4_isObject (fr := fr - 1) hM.1 (by omega) _) rfl rfl (Nat.le_of_ble_eq_true rfl) (by omega) (by decide) (Nat.le_refl _) (Nat.le_refl _) dX4_adds_7 (fun hp hM => ?_)
  refine aw_if_eq hX (tgt := 42) dX4_adds_10 (by decide) (fun c10 => ?_) (fun c10 => ?_)
  · have b10 := bI_0' c10
    refine aw_iconst (v := 0) hX dX4_adds_42 (by decide) ?_
    refine aw_ist7 hX dX4_adds_43 (by decide) rfl ?_
    refine aw_ild7 hX dX4_adds_45 ?_
    refine aw_if_ne hX (tgt := 56) dX4_adds_47 (by decide) (fun c => absurd (rfl) c) (fun _ => ?_)
    refine aw_ald0 hX dX4_adds_50 ?_
    refine aw_iconst (v := 1) hX dX4_adds_51 (by decide) ?_
    refine mm_call hX hM lk_X4_76 rfl (c_X4_fails (fr := fr - 1) hM.1 (by omega) _) rfl rfl (Nat.le_of_ble_eq_true rfl) (by omega) (by decide) (Nat.le_refl _) (Nat.le_refl _) dX4_adds_52 (fun hp hM => ?_)
    refine aw_iret hX (Nat.le_refl _) (Nat.le_refl _) dX4_adds_55 (hq _ _ ?_)
    first
      | (have e9 : mop_adds S o 1 w r a b = mBad S 1 := by (unfold mop_adds; simp [show mObj (S.1 0) o = false from b10])
         rw [e9]
         exact ⟨rfl, hM.cg (sV_sV S 1 0 1)⟩)
      | (have e9 : mop_adds S o 1 w r a b = mBad S 1 := by (unfold mop_adds; simp [show mObj (S.1 0) o = true from b10, show mGroup (S.1 0) w = false from b35])
         rw [e9]
         exact ⟨rfl, hM.cg (sV_sV S 1 0 1)⟩)
  · have b10 := bI_n0 c10
    refine aw_ild2 hX dX4_adds_13 ?_
    refine aw_if_ne hX (tgt := 25) dX4_adds_14 (by decide) (fun _ => ?_) (fun c => absurd c (by decide))
    refine aw_ild2 hX dX4_adds_25 ?_
    refine aw_iconst (v := 1) hX dX4_adds_26 (by decide) ?_
    refine aw_icmp_ne hX (tgt := 38) dX4_adds_27 (by decide) (fun c => absurd (rfl) c) (fun _ => ?_)
    refine aw_ald0 hX dX4_adds_30 ?_
    refine aw_ild3 hX dX4_adds_31 ?_
    refine mm_call hX hM lk_X4_85 rfl (c_X4_isGroup (fr := fr - 1) hM.1 (by omega) _) rfl rfl (Nat.le_of_ble_eq_true rfl) (by omega) (by decide) (Nat.le_refl _) (Nat.le_refl _) dX4_adds_32 (fun hp hM => ?_)
    refine aw_if_eq hX (tgt := 42) dX4_adds_35 (by decide) (fun c35 => ?_) (fun c35 => ?_)
    · have b35 := bI_0' c35
      refine aw_iconst (v := 0) hX dX4_adds_42 (by decide) ?_
      refine aw_ist7 hX dX4_adds_43 (by decide) rfl ?_
      refine aw_ild7 hX dX4_adds_45 ?_
      refine aw_if_ne hX (tgt := 56) dX4_adds_47 (by decide) (fun c => absurd (rfl) c) (fun _ => ?_)
      refine aw_ald0 hX dX4_adds_50 ?_
      refine aw_iconst (v := 1) hX dX4_adds_51 (by decide) ?_
      refine mm_call hX hM lk_X4_76 rfl (c_X4_fails (fr := fr - 1) hM.1 (by omega) _) rfl rfl (Nat.le_of_ble_eq_true rfl) (by omega) (by decide) (Nat.le_refl _) (Nat.le_refl _) dX4_adds_52 (fun hp hM => ?_)
      refine aw_iret hX (Nat.le_refl _) (Nat.le_refl _) dX4_adds_55 (hq _ _ ?_)
      first
        | (have e9 : mop_adds S o 1 w r a b = mBad S 1 := by (unfold mop_adds; simp [show mObj (S.1 0) o = false from b10])
           rw [e9]
           exact ⟨rfl, hM.cg (sV_sV S 1 0 1)⟩)
        | (have e9 : mop_adds S o 1 w r a b = mBad S 1 := by (unfold mop_adds; simp [show mObj (S.1 0) o = true from b10, show mGroup (S.1 0) w = false from b35])
           rw [e9]
           exact ⟨rfl, hM.cg (sV_sV S 1 0 1)⟩)
    · have b35 := bI_n0 c35
      refine aw_iconst (v := 1) hX dX4_adds_38 (by decide) ?_
      refine aw_goto hX (tgt := 43) dX4_adds_39 (by decide) ?_
      refine aw_ist7 hX dX4_adds_43 (by decide) rfl ?_
      refine aw_ild7 hX dX4_adds_45 ?_
      refine aw_if_ne hX (tgt := 56) dX4_adds_47 (by decide) (fun _ => ?_) (fun c => absurd c (by decide))
      obtain ⟨o, ho, rfl, ho1⟩ := mObj_of b10
      obtain ⟨rk, hrk, hob⟩ := ok.rk
      obtain ⟨-, -, c, hc, ec, -⟩ := hob o ho ho1
      refine aw_ild4 hX dX4_adds_56 ?_
      refine ss_call hX lk_X4_101 (c_X4_areRights (fr := fr - 1) (by omega) _) rfl rfl (Nat.le_of_ble_eq_true rfl) (by omega) (by decide) (Nat.le_refl _) (Nat.le_refl _) dX4_adds_58 ?_
      refine aw_if_ne hX (tgt := 70) dX4_adds_61 (by decide) (fun c61 => ?_) (fun c61 => ?_)
      · have b61 := bI_n0 c61
        refine aw_ald0 hX dX4_adds_70 ?_
        refine aw_ild1 hX dX4_adds_71 ?_
        refine aw_iconst (v := 5) hX dX4_adds_72 (by decide) ?_
        refine mm_call hX hM lk_X4_54 rfl (c_X4_of (fr := fr - 1) hM.1 (by omega) o 5 ho (by decide)) rfl rfl (Nat.le_of_ble_eq_true rfl) (by omega) (by decide) (Nat.le_refl _) (Nat.le_refl _) dX4_adds_73 (fun hp hM => ?_)
        refine aw_bipush (v := 6) hX dX4_adds_76 (by decide) ?_
        refine aw_icmp_ne hX (tgt := 87) dX4_adds_78 (by decide) (fun c78 => ?_) (fun c78 => ?_)
        · have hc6 : c < 6 := by
            rcases Nat.lt_or_ge c 6 with q | q
            · exact q
            · exfalso
              have : c = 6 := by omega
              subst this
              exact c78 ec
          refine aw_ald0 hX dX4_adds_87 ?_
          refine mm_call hX hM lk_X4_79 rfl (c_X4_changes (fr := fr - 1) hM.1 (by omega) ok.p) rfl rfl (Nat.le_of_ble_eq_true rfl) (by omega) (by decide) (Nat.le_refl _) (Nat.le_refl _) dX4_adds_88 (fun hp hM => ?_)
          refine aw_ald0 hX dX4_adds_91 ?_
          refine mm_get hX hM fg_X4_7 rfl dX4_adds_92 ?_
          refine aw_ild1 hX dX4_adds_95 ?_
          refine aw_iconst (v := 5) hX dX4_adds_96 (by decide) ?_
          refine ss_call hX lk_X4_50 (c_X4_at (fr := fr - 1) (by omega) _ _) rfl rfl (Nat.le_of_ble_eq_true rfl) (by omega) (by decide) (Nat.le_refl _) (Nat.le_refl _) dX4_adds_97 ?_
          refine aw_dup2 hX dX4_adds_100 rfl rfl ?_
          refine mm_ld hX hM (by decide) (mO o 5) (mO_i o 5) (mO_lt ho (by decide)) dX4_adds_101 ?_
          refine aw_iconst (v := 1) hX dX4_adds_102 (by decide) ?_
          refine aw_iadd hX dX4_adds_103 ?_
          refine mm_st hX hM (by decide) (mO o 5) (mO_i o 5) (mO_lt ho (by decide)) dX4_adds_104 (fun hp hM => ?_)
          refine aw_ald0 hX dX4_adds_105 ?_
          refine aw_ild1 hX dX4_adds_106 ?_
          refine aw_ald0 hX dX4_adds_107 ?_
          refine aw_ild1 hX dX4_adds_108 ?_
          refine aw_iconst (v := 5) hX dX4_adds_109 (by decide) ?_
          refine mm_call hX hM lk_X4_54 rfl (c_X4_of (fr := fr - 1) hM.1 (by omega) o 5 ho (by decide)) rfl rfl (Nat.le_of_ble_eq_true rfl) (by omega) (by decide) (Nat.le_refl _) (Nat.le_refl _) dX4_adds_110 (fun hp hM => ?_)
          have hcnt : (sA (mC S) 0 (upd (S.1 0) (mO o 5) (S.1 0 (mO o 5) + 1))).1 0 (mO o 5) - 1 = nI c := by rw [sA_at, pk_us, ec, nI_1]; exact nI_pred c
          refine aw_iconst (v := 1) hX dX4_adds_113 (by decide) ?_
          refine aw_isub hX dX4_adds_114 ?_
          rw [show (sA (mChg (sV S 1 0)) 0 (upd ((mChg (sV S 1 0)).1 0) (mO o 5) ((mChg (sV S 1 0)).1 0 (mO o 5) + 1))).1 0 (mO o 5) - 1 = nI c from hcnt]
          refine aw_ild2 hX dX4_adds_115 ?_
          refine aw_ild3 hX dX4_adds_116 ?_
          refine aw_ild4 hX dX4_adds_117 ?_
          refine aw_ild5 hX dX4_adds_119 ?_
          refine aw_ild6 hX dX4_adds_121 ?_
          refine mm_call hX hM lk_X4_104 rfl (c_X4_writes (fr := fr - 1) hM.1 (by omega) o c 1 w r a b ho hc6) rfl rfl (Nat.le_of_ble_eq_true rfl) (by omega) (by decide) (Nat.le_refl _) (Nat.le_refl _) dX4_adds_123 (fun hp hM => ?_)
          refine aw_ald0 hX dX4_adds_126 ?_
          refine aw_ild1 hX dX4_adds_127 ?_
          refine aw_iconst (v := 5) hX dX4_adds_128 (by decide) ?_
          refine mm_call hX hM lk_X4_54 rfl (c_X4_of (fr := fr - 1) hM.1 (by omega) o 5 ho (by decide)) rfl rfl (Nat.le_of_ble_eq_true rfl) (by omega) (by decide) (Nat.le_refl _) (Nat.le_refl _) dX4_adds_129 (fun hp hM => ?_)
          refine aw_iret hX (Nat.le_refl _) (Nat.le_refl _) dX4_adds_132 (hq _ _ ?_)
          first
            | (have e9 : mop_adds S (nI o) 1 w r a b = (0, S.1 0 (mO o 5) + 1, sA (mC S) 0 (mWr (upd (S.1 0) (mO o 5) (S.1 0 (mO o 5) + 1)) o c 1 w r a b)) := by (unfold mop_adds; simp [show mObj (S.1 0) (nI o) = true from b10, show mGroup (S.1 0) w = true from b35, of_decide_eq_true b61, nI_clamp (show o < 2 ^ 31 by omega), show ¬ nI c = 6 from (fun q => c78 (ec.trans q)), mCo, mN, ec, nI_clamp (show c < 2 ^ 31 by omega)])
               rw [e9]
               exact ⟨by rw [sA_at]; refine congrArg (fun x => some (Value.int x)) ?_; show mWr (upd (S.1 0) (mO o 5) (S.1 0 (mO o 5) + 1)) o c _ w r a b (mO o 5) = _; unfold mWr; rw [pk_un (by unfold mE mO; omega), pk_un (by unfold mE mO; omega), pk_un (by unfold mE mO; omega), pk_un (by unfold mE mO; omega), pk_un (by unfold mE mO; omega), pk_us], hM.cg (by rw [sA_sA, sA_at]; rfl)⟩)
        · refine aw_ald0 hX dX4_adds_81 ?_
          refine aw_iconst (v := 3) hX dX4_adds_82 (by decide) ?_
          refine mm_call hX hM lk_X4_76 rfl (c_X4_fails (fr := fr - 1) hM.1 (by omega) _) rfl rfl (Nat.le_of_ble_eq_true rfl) (by omega) (by decide) (Nat.le_refl _) (Nat.le_refl _) dX4_adds_83 (fun hp hM => ?_)
          refine aw_iret hX (Nat.le_refl _) (Nat.le_refl _) dX4_adds_86 (hq _ _ ?_)
          first
            | (have e9 : mop_adds S (nI o) 1 w r a b = mBad S 3 := by (unfold mop_adds; simp [show mObj (S.1 0) (nI o) = true from b10, show mGroup (S.1 0) w = true from b35, of_decide_eq_true b61, nI_clamp (show o < 2 ^ 31 by omega), show S.1 0 (mO o 5) = 6 from c78])
               rw [e9]
               exact ⟨rfl, hM.cg (sV_sV S 1 0 3)⟩)
      · have b61 := bI_0' c61
        refine aw_ald0 hX dX4_adds_64 ?_
        refine aw_iconst (v := 2) hX dX4_adds_65 (by decide) ?_
        refine mm_call hX hM lk_X4_76 rfl (c_X4_fails (fr := fr - 1) hM.1 (by omega) _) rfl rfl (Nat.le_of_ble_eq_true rfl) (by omega) (by decide) (Nat.le_refl _) (Nat.le_refl _) dX4_adds_66 (fun hp hM => ?_)
        refine aw_iret hX (Nat.le_refl _) (Nat.le_refl _) dX4_adds_69 (hq _ _ ?_)
        first
          | (have e9 : mop_adds S (nI o) 1 w r a b = mBad S 2 := by (unfold mop_adds; simp [show mObj (S.1 0) (nI o) = true from b10, show mGroup (S.1 0) w = true from b35, of_decide_eq_false b61])
             rw [e9]
             exact ⟨rfl, hM.cg (sV_sV S 1 0 2)⟩)
set_option maxHeartbeats 4000000 in
set_option maxRecDepth 100000 in
theorem c_X4_adds_2 {D : Gd} {fr : Nat} {m : Nat} {ad : Nat → Nat} {S : Ms} {h : Hm} (hM : MW m ad S h) (hf : 4 ≤ fr) (ok : MOk S) (o w r : Int32) (a b : Bool) : MC D fr yX4_adds cX4_adds 8 (some .int) m ad h [.int o, .int 2, .int w, .int r, .int (bI a), .int (bI b)] (some (.int (mop_adds S o 2 w r a b).2.1)) ((mop_adds S o 2 w r a b).2.2) := by
  refine AM.of (lv := [some (.ref m), some (.int o), some (.int 2), some (.int w), some (.int r), some (.int (bI a)), some (.int (bI b)), none]) (by decide +kernel) (Nat.le_of_ble_eq_true rfl) rfl (fun z hX hq _ => ?_)
  have hM := hM.rf
  refine aw_ald0 hX dX4_adds_0 ?_
  refine aw_iconst (v := 0) hX dX4_adds_1 (by decide) ?_
  refine mm_put hX hM 1 fp_X4_39 (by decide) dX4_adds_2 (fun hp hM => ?_)
  refine aw_ald0 hX dX4_adds_5 ?_
  refine aw_ild1 hX dX4_adds_6 ?_
  refine mm_call hX hM lk_X4_57 rfl (c_X4_isObject (fr := fr - 1) hM.1 (by omega) _) rfl rfl (Nat.le_of_ble_eq_true rfl) (by omega) (by decide) (Nat.le_refl _) (Nat.le_refl _) dX4_adds_7 (fun hp hM => ?_)
  refine aw_if_eq hX (tgt := 42) dX4_adds_10 (by decide) (fun c10 => ?_) (fun c10 => ?_)
  · have b10 := bI_0' c10
    refine aw_iconst (v := 0) hX dX4_adds_42 (by decide) ?_
    refine aw_ist7 hX dX4_adds_43 (by decide) rfl ?_
    refine aw_ild7 hX dX4_adds_45 ?_
    refine aw_if_ne hX (tgt := 56) dX4_adds_47 (by decide) (fun c => absurd (rfl) c) (fun _ => ?_)
    refine aw_ald0 hX dX4_adds_50 ?_
    refine aw_iconst (v := 1) hX dX4_adds_51 (by decide) ?_
    refine mm_call hX hM lk_X4_76 rfl (c_X4_fails (fr := fr - 1) hM.1 (by omega) _) rfl rfl (Nat.le_of_ble_eq_true rfl) (by omega) (by decide) (Nat.le_refl _) (Nat.le_refl _) dX4_adds_52 (fun hp hM => ?_)
    refine aw_iret hX (Nat.le_refl _) (Nat.le_refl _) dX4_adds_55 (hq _ _ ?_)
    first
      | (have e9 : mop_adds S o 2 w r a b = mBad S 1 := by (unfold mop_adds; simp [show mObj (S.1 0) o = false from b10])
         rw [e9]
         exact ⟨rfl, hM.cg (sV_sV S 1 0 1)⟩)
  · have b10 := bI_n0 c10
    refine aw_ild2 hX dX4_adds_13 ?_
    refine aw_if_ne hX (tgt := 25) dX4_adds_14 (by decide) (fun _ => ?_) (fun c => absurd c (by decide))
    refine aw_ild2 hX dX4_adds_25 ?_
    refine aw_iconst (v := 1) hX dX4_adds_26 (by decide) ?_
    refine aw_icmp_ne hX (tgt := 38) dX4_adds_27 (by decide) (fun _ => ?_) (fun c => absurd c (by decide))
    refine aw_iconst (v := 1) hX dX4_adds_38 (by decide) ?_
    refine aw_goto hX (tgt := 43) dX4_adds_39 (by decide) ?_
    refine aw_ist7 hX dX4_adds_43 (by decide) rfl ?_
    refine aw_ild7 hX dX4_adds_45 ?_
    refine aw_if_ne hX (tgt := 56) dX4_adds_47 (by decide) (fun _ => ?_) (fun c => absurd c (by decide))
    obtain ⟨o, ho, rfl, ho1⟩ := mObj_of b10
    obtain ⟨rk, hrk, hob⟩ := ok.rk
    obtain ⟨-, -, c, hc, ec, -⟩ := hob o ho ho1
    refine aw_ild4 hX dX4_adds_56 ?_
    refine ss_call hX lk_X4_101 (c_X4_areRights (fr := fr - 1) (by omega) _) rfl rfl (Nat.le_of_ble_eq_true rfl) (by omega) (by decide) (Nat.le_refl _) (Nat.le_refl _) dX4_adds_58 ?_
    refine aw_if_ne hX (tgt := 70) dX4_adds_61 (by decide) (fun c61 => ?_) (fun c61 => ?_)
    · have b61 := bI_n0 c61
      refine aw_ald0 hX dX4_adds_70 ?_
      refine aw_ild1 hX dX4_adds_71 ?_
      refine aw_iconst (v := 5) hX dX4_adds_72 (by decide) ?_
      refine mm_call hX hM lk_X4_54 rfl (c_X4_of (fr := fr - 1) hM.1 (by omega) o 5 ho (by decide)) rfl rfl (Nat.le_of_ble_eq_true rfl) (by omega) (by decide) (Nat.le_refl _) (Nat.le_refl _) dX4_adds_73 (fun hp hM => ?_)
      refine aw_bipush (v := 6) hX dX4_adds_76 (by decide) ?_
      refine aw_icmp_ne hX (tgt := 87) dX4_adds_78 (by decide) (fun c78 => ?_) (fun c78 => ?_)
      · have hc6 : c < 6 := by
          rcases Nat.lt_or_ge c 6 with q | q
          · exact q
          · exfalso
            have : c = 6 := by omega
            subst this
            exact c78 ec
        refine aw_ald0 hX dX4_adds_87 ?_
        refine mm_call hX hM lk_X4_79 rfl (c_X4_changes (fr := fr - 1) hM.1 (by omega) ok.p) rfl rfl (Nat.le_of_ble_eq_true rfl) (by omega) (by decide) (Nat.le_refl _) (Nat.le_refl _) dX4_adds_88 (fun hp hM => ?_)
        refine aw_ald0 hX dX4_adds_91 ?_
        refine mm_get hX hM fg_X4_7 rfl dX4_adds_92 ?_
        refine aw_ild1 hX dX4_adds_95 ?_
        refine aw_iconst (v := 5) hX dX4_adds_96 (by decide) ?_
        refine ss_call hX lk_X4_50 (c_X4_at (fr := fr - 1) (by omega) _ _) rfl rfl (Nat.le_of_ble_eq_true rfl) (by omega) (by decide) (Nat.le_refl _) (Nat.le_refl _) dX4_adds_97 ?_
        refine aw_dup2 hX dX4_adds_100 rfl rfl ?_
        refine mm_ld hX hM (by decide) (mO o 5) (mO_i o 5) (mO_lt ho (by decide)) dX4_adds_101 ?_
        refine aw_iconst (v := 1) hX dX4_adds_102 (by decide) ?_
        refine aw_iadd hX dX4_adds_103 ?_
        refine mm_st hX hM (by decide) (mO o 5) (mO_i o 5) (mO_lt ho (by decide)) dX4_adds_104 (fun hp hM => ?_)
        refine aw_ald0 hX dX4_adds_105 ?_
        refine aw_ild1 hX dX4_adds_106 ?_
        refine aw_ald0 hX dX4_adds_107 ?_
        refine aw_ild1 hX dX4_adds_108 ?_
        refine aw_iconst (v := 5) hX dX4_adds_109 (by decide) ?_
        refine mm_call hX hM lk_X4_54 rfl (c_X4_of (fr := fr - 1) hM.1 (by omega) o 5 ho (by decide)) rfl rfl (Nat.le_of_ble_eq_true rfl) (by omega) (by decide) (Nat.le_refl _) (Nat.le_refl _) dX4_adds_110 (fun hp hM => ?_)
        have hcnt : (sA (mC S) 0 (upd (S.1 0) (mO o 5) (S.1 0 (mO o 5) + 1))).1 0 (mO o 5) - 1 = nI c := by rw [sA_at, pk_us, ec, nI_1]; exact nI_pred c
        refine aw_iconst (v := 1) hX dX4_adds_113 (by decide) ?_
        refine aw_isub hX dX4_adds_114 ?_
        rw [show (sA (mChg (sV S 1 0)) 0 (upd ((mChg (sV S 1 0)).1 0) (mO o 5) ((mChg (sV S 1 0)).1 0 (mO o 5) + 1))).1 0 (mO o 5) - 1 = nI c from hcnt]
        refine aw_ild2 hX dX4_adds_115 ?_
        refine aw_ild3 hX dX4_adds_116 ?_
        refine aw_ild4 hX dX4_adds_117 ?_
        refine aw_ild5 hX dX4_adds_119 ?_
        refine aw_ild6 hX dX4_adds_121 ?_
        refine mm_call hX hM lk_X4_104 rfl (c_X4_writes (fr := fr - 1) hM.1 (by omega) o c 2 w r a b ho hc6) rfl rfl (Nat.le_of_ble_eq_true rfl) (by omega) (by decide) (Nat.le_refl _) (Nat.le_refl _) dX4_adds_123 (fun hp hM => ?_)
        refine aw_ald0 hX dX4_adds_126 ?_
        refine aw_ild1 hX dX4_adds_127 ?_
        refine aw_iconst (v := 5) hX dX4_adds_128 (by decide) ?_
        refine mm_call hX hM lk_X4_54 rfl (c_X4_of (fr := fr - 1) hM.1 (by omega) o 5 ho (by decide)) rfl rfl (Nat.le_of_ble_eq_true rfl) (by omega) (by decide) (Nat.le_refl _) (Nat.le_refl _) dX4_adds_129 (fun hp hM => ?_)
        refine aw_iret hX (Nat.le_refl _) (Nat.le_refl _) dX4_adds_132 (hq _ _ ?_)
        first
          | (have e9 : mop_adds S (nI o) 2 w r a b = (0, S.1 0 (mO o 5) + 1, sA (mC S) 0 (mWr (upd (S.1 0) (mO o 5) (S.1 0 (mO o 5) + 1)) o c 2 w r a b)) := by (unfold mop_adds; simp [show mObj (S.1 0) (nI o) = true from b10, of_decide_eq_true b61, nI_clamp (show o < 2 ^ 31 by omega), show ¬ nI c = 6 from (fun q => c78 (ec.trans q)), mCo, mN, ec, nI_clamp (show c < 2 ^ 31 by omega)])
             rw [e9]
             exact ⟨by rw [sA_at]; refine congrArg (fun x => some (Value.int x)) ?_; show mWr (upd (S.1 0) (mO o 5) (S.1 0 (mO o 5) + 1)) o c _ w r a b (mO o 5) = _; unfold mWr; rw [pk_un (by unfold mE mO; omega), pk_un (by unfold mE mO; omega), pk_un (by unfold mE mO; omega), pk_un (by unfold mE mO; omega), pk_un (by unfold mE mO; omega), pk_us], hM.cg (by rw [sA_sA, sA_at]; rfl)⟩)
      · refine aw_ald0 hX dX4_adds_81 ?_
        refine aw_iconst (v := 3) hX dX4_adds_82 (by decide) ?_
        refine mm_call hX hM lk_X4_76 rfl (c_X4_fails (fr := fr - 1) hM.1 (by omega) _) rfl rfl (Nat.le_of_ble_eq_true rfl) (by omega) (by decide) (Nat.le_refl _) (Nat.le_refl _) dX4_adds_83 (fun hp hM => ?_)
        refine aw_iret hX (Nat.le_refl _) (Nat.le_refl _) dX4_adds_86 (hq _ _ ?_)
        first
          | (have e9 : mop_adds S (nI o) 2 w r a b = mBad S 3 := by (unfold mop_adds; simp [show mObj (S.1 0) (nI o) = true from b10, of_decide_eq_true b61, nI_clamp (show o < 2 ^ 31 by omega), show S.1 0 (mO o 5) = 6 from c78])
             rw [e9]
             exact ⟨rfl, hM.cg (sV_sV S 1 0 3)⟩)
    · have b61 := bI_0' c61
      refine aw_ald0 hX dX4_adds_64 ?_
      refine aw_iconst (v := 2) hX dX4_adds_65 (by decide) ?_
      refine mm_call hX hM lk_X4_76 rfl (c_X4_fails (fr := fr - 1) hM.1 (by omega) _) rfl rfl (Nat.le_of_ble_eq_true rfl) (by omega) (by decide) (Nat.le_refl _) (Nat.le_refl _) dX4_adds_66 (fun hp hM => ?_)
      refine aw_iret hX (Nat.le_refl _) (Nat.le_refl _) dX4_adds_69 (hq _ _ ?_)
      first
        | (have e9 : mop_adds S (nI o) 2 w r a b = mBad S 2 := by (unfold mop_adds; simp [show mObj (S.1 0) (nI o) = true from b10, of_decide_eq_false b61])
           rw [e9]
           exact ⟨rfl, hM.cg (sV_sV S 1 0 2)⟩)
set_option maxHeartbeats 4000000 in
set_option maxRecDepth 100000 in
theorem c_X4_adds_3 {D : Gd} {fr : Nat} {m : Nat} {ad : Nat → Nat} {S : Ms} {h : Hm} (hM : MW m ad S h) (hf : 4 ≤ fr) (ok : MOk S) (o w r : Int32) (a b : Bool) : MC D fr yX4_adds cX4_adds 8 (some .int) m ad h [.int o, .int 3, .int w, .int r, .int (bI a), .int (bI b)] (some (.int (mop_adds S o 3 w r a b).2.1)) ((mop_adds S o 3 w r a b).2.2) := by
  refine AM.of (lv := [some (.ref m), some (.int o), some (.int 3), some (.int w), some (.int r), some (.int (bI a)), some (.int (bI b)), none]) (by decide +kernel) (Nat.le_of_ble_eq_true rfl) rfl (fun z hX hq _ => ?_)
  have hM := hM.rf
  refine aw_ald0 hX dX4_adds_0 ?_
  refine aw_iconst (v := 0) hX dX4_adds_1 (by decide) ?_
  refine mm_put hX hM 1 fp_X4_39 (by decide) dX4_adds_2 (fun hp hM => ?_)
  refine aw_ald0 hX dX4_adds_5 ?_
  refine aw_ild1 hX dX4_adds_6 ?_
  refine mm_call hX hM lk_X4_57 rfl (c_X4_isObject (fr := fr - 1) hM.1 (by omega) _) rfl rfl (Nat.le_of_ble_eq_true rfl) (by omega) (by decide) (Nat.le_refl _) (Nat.le_refl _) dX4_adds_7 (fun hp hM => ?_)
  refine aw_if_eq hX (tgt := 42) dX4_adds_10 (by decide) (fun c10 => ?_) (fun c10 => ?_)
  · have b10 := bI_0' c10
    refine aw_iconst (v := 0) hX dX4_adds_42 (by decide) ?_
    refine aw_ist7 hX dX4_adds_43 (by decide) rfl ?_
    refine aw_ild7 hX dX4_adds_45 ?_
    refine aw_if_ne hX (tgt := 56) dX4_adds_47 (by decide) (fun c => absurd (rfl) c) (fun _ => ?_)
    refine aw_ald0 hX dX4_adds_50 ?_
    refine aw_iconst (v := 1) hX dX4_adds_51 (by decide) ?_
    refine mm_call hX hM lk_X4_76 rfl (c_X4_fails (fr := fr - 1) hM.1 (by omega) _) rfl rfl (Nat.le_of_ble_eq_true rfl) (by omega) (by decide) (Nat.le_refl _) (Nat.le_refl _) dX4_adds_52 (fun hp hM => ?_)
    refine aw_iret hX (Nat.le_refl _) (Nat.le_refl _) dX4_adds_55 (hq _ _ ?_)
    first
      | (have e9 : mop_adds S o 3 w r a b = mBad S 1 := by (unfold mop_adds; simp [show mObj (S.1 0) o = false from b10])
         rw [e9]
         exact ⟨rfl, hM.cg (sV_sV S 1 0 1)⟩)
  · have b10 := bI_n0 c10
    refine aw_ild2 hX dX4_adds_13 ?_
    refine aw_if_ne hX (tgt := 25) dX4_adds_14 (by decide) (fun _ => ?_) (fun c => absurd c (by decide))
    refine aw_ild2 hX dX4_adds_25 ?_
    refine aw_iconst (v := 1) hX dX4_adds_26 (by decide) ?_
    refine aw_icmp_ne hX (tgt := 38) dX4_adds_27 (by decide) (fun _ => ?_) (fun c => absurd c (by decide))
    refine aw_iconst (v := 1) hX dX4_adds_38 (by decide) ?_
    refine aw_goto hX (tgt := 43) dX4_adds_39 (by decide) ?_
    refine aw_ist7 hX dX4_adds_43 (by decide) rfl ?_
    refine aw_ild7 hX dX4_adds_45 ?_
    refine aw_if_ne hX (tgt := 56) dX4_adds_47 (by decide) (fun _ => ?_) (fun c => absurd c (by decide))
    obtain ⟨o, ho, rfl, ho1⟩ := mObj_of b10
    obtain ⟨rk, hrk, hob⟩ := ok.rk
    obtain ⟨-, -, c, hc, ec, -⟩ := hob o ho ho1
    refine aw_ild4 hX dX4_adds_56 ?_
    refine ss_call hX lk_X4_101 (c_X4_areRights (fr := fr - 1) (by omega) _) rfl rfl (Nat.le_of_ble_eq_true rfl) (by omega) (by decide) (Nat.le_refl _) (Nat.le_refl _) dX4_adds_58 ?_
    refine aw_if_ne hX (tgt := 70) dX4_adds_61 (by decide) (fun c61 => ?_) (fun c61 => ?_)
    · have b61 := bI_n0 c61
      refine aw_ald0 hX dX4_adds_70 ?_
      refine aw_ild1 hX dX4_adds_71 ?_
      refine aw_iconst (v := 5) hX dX4_adds_72 (by decide) ?_
      refine mm_call hX hM lk_X4_54 rfl (c_X4_of (fr := fr - 1) hM.1 (by omega) o 5 ho (by decide)) rfl rfl (Nat.le_of_ble_eq_true rfl) (by omega) (by decide) (Nat.le_refl _) (Nat.le_refl _) dX4_adds_73 (fun hp hM => ?_)
      refine aw_bipush (v := 6) hX dX4_adds_76 (by decide) ?_
      refine aw_icmp_ne hX (tgt := 87) dX4_adds_78 (by decide) (fun c78 => ?_) (fun c78 => ?_)
      · have hc6 : c < 6 := by
          rcases Nat.lt_or_ge c 6 with q | q
          · exact q
          · exfalso
            have : c = 6 := by omega
            subst this
            exact c78 ec
        refine aw_ald0 hX dX4_adds_87 ?_
        refine mm_call hX hM lk_X4_79 rfl (c_X4_changes (fr := fr - 1) hM.1 (by omega) ok.p) rfl rfl (Nat.le_of_ble_eq_true rfl) (by omega) (by decide) (Nat.le_refl _) (Nat.le_refl _) dX4_adds_88 (fun hp hM => ?_)
        refine aw_ald0 hX dX4_adds_91 ?_
        refine mm_get hX hM fg_X4_7 rfl dX4_adds_92 ?_
        refine aw_ild1 hX dX4_adds_95 ?_
        refine aw_iconst (v := 5) hX dX4_adds_96 (by decide) ?_
        refine ss_call hX lk_X4_50 (c_X4_at (fr := fr - 1) (by omega) _ _) rfl rfl (Nat.le_of_ble_eq_true rfl) (by omega) (by decide) (Nat.le_refl _) (Nat.le_refl _) dX4_adds_97 ?_
        refine aw_dup2 hX dX4_adds_100 rfl rfl ?_
        refine mm_ld hX hM (by decide) (mO o 5) (mO_i o 5) (mO_lt ho (by decide)) dX4_adds_101 ?_
        refine aw_iconst (v := 1) hX dX4_adds_102 (by decide) ?_
        refine aw_iadd hX dX4_adds_103 ?_
        refine mm_st hX hM (by decide) (mO o 5) (mO_i o 5) (mO_lt ho (by decide)) dX4_adds_104 (fun hp hM => ?_)
        refine aw_ald0 hX dX4_adds_105 ?_
        refine aw_ild1 hX dX4_adds_106 ?_
        refine aw_ald0 hX dX4_adds_107 ?_
        refine aw_ild1 hX dX4_adds_108 ?_
        refine aw_iconst (v := 5) hX dX4_adds_109 (by decide) ?_
        refine mm_call hX hM lk_X4_54 rfl (c_X4_of (fr := fr - 1) hM.1 (by omega) o 5 ho (by decide)) rfl rfl (Nat.le_of_ble_eq_true rfl) (by omega) (by decide) (Nat.le_refl _) (Nat.le_refl _) dX4_adds_110 (fun hp hM => ?_)
        have hcnt : (sA (mC S) 0 (upd (S.1 0) (mO o 5) (S.1 0 (mO o 5) + 1))).1 0 (mO o 5) - 1 = nI c := by rw [sA_at, pk_us, ec, nI_1]; exact nI_pred c
        refine aw_iconst (v := 1) hX dX4_adds_113 (by decide) ?_
        refine aw_isub hX dX4_adds_114 ?_
        rw [show (sA (mChg (sV S 1 0)) 0 (upd ((mChg (sV S 1 0)).1 0) (mO o 5) ((mChg (sV S 1 0)).1 0 (mO o 5) + 1))).1 0 (mO o 5) - 1 = nI c from hcnt]
        refine aw_ild2 hX dX4_adds_115 ?_
        refine aw_ild3 hX dX4_adds_116 ?_
        refine aw_ild4 hX dX4_adds_117 ?_
        refine aw_ild5 hX dX4_adds_119 ?_
        refine aw_ild6 hX dX4_adds_121 ?_
        refine mm_call hX hM lk_X4_104 rfl (c_X4_writes (fr := fr - 1) hM.1 (by omega) o c 3 w r a b ho hc6) rfl rfl (Nat.le_of_ble_eq_true rfl) (by omega) (by decide) (Nat.le_refl _) (Nat.le_refl _) dX4_adds_123 (fun hp hM => ?_)
        refine aw_ald0 hX dX4_adds_126 ?_
        refine aw_ild1 hX dX4_adds_127 ?_
        refine aw_iconst (v := 5) hX dX4_adds_128 (by decide) ?_
        refine mm_call hX hM lk_X4_54 rfl (c_X4_of (fr := fr - 1) hM.1 (by omega) o 5 ho (by decide)) rfl rfl (Nat.le_of_ble_eq_true rfl) (by omega) (by decide) (Nat.le_refl _) (Nat.le_refl _) dX4_adds_129 (fun hp hM => ?_)
        refine aw_iret hX (Nat.le_refl _) (Nat.le_refl _) dX4_adds_132 (hq _ _ ?_)
        first
          | (have e9 : mop_adds S (nI o) 3 w r a b = (0, S.1 0 (mO o 5) + 1, sA (mC S) 0 (mWr (upd (S.1 0) (mO o 5) (S.1 0 (mO o 5) + 1)) o c 3 w r a b)) := by (unfold mop_adds; simp [show mObj (S.1 0) (nI o) = true from b10, of_decide_eq_true b61, nI_clamp (show o < 2 ^ 31 by omega), show ¬ nI c = 6 from (fun q => c78 (ec.trans q)), mCo, mN, ec, nI_clamp (show c < 2 ^ 31 by omega)])
             rw [e9]
             exact ⟨by rw [sA_at]; refine congrArg (fun x => some (Value.int x)) ?_; show mWr (upd (S.1 0) (mO o 5) (S.1 0 (mO o 5) + 1)) o c _ w r a b (mO o 5) = _; unfold mWr; rw [pk_un (by unfold mE mO; omega), pk_un (by unfold mE mO; omega), pk_un (by unfold mE mO; omega), pk_un (by unfold mE mO; omega), pk_un (by unfold mE mO; omega), pk_us], hM.cg (by rw [sA_sA, sA_at]; rfl)⟩)
      · refine aw_ald0 hX dX4_adds_81 ?_
        refine aw_iconst (v := 3) hX dX4_adds_82 (by decide) ?_
        refine mm_call hX hM lk_X4_76 rfl (c_X4_fails (fr := fr - 1) hM.1 (by omega) _) rfl rfl (Nat.le_of_ble_eq_true rfl) (by omega) (by decide) (Nat.le_refl _) (Nat.le_refl _) dX4_adds_83 (fun hp hM => ?_)
        refine aw_iret hX (Nat.le_refl _) (Nat.le_refl _) dX4_adds_86 (hq _ _ ?_)
        first
          | (have e9 : mop_adds S (nI o) 3 w r a b = mBad S 3 := by (unfold mop_adds; simp [show mObj (S.1 0) (nI o) = true from b10, of_decide_eq_true b61, nI_clamp (show o < 2 ^ 31 by omega), show S.1 0 (mO o 5) = 6 from c78])
             rw [e9]
             exact ⟨rfl, hM.cg (sV_sV S 1 0 3)⟩)
    · have b61 := bI_0' c61
      refine aw_ald0 hX dX4_adds_64 ?_
      refine aw_iconst (v := 2) hX dX4_adds_65 (by decide) ?_
      refine mm_call hX hM lk_X4_76 rfl (c_X4_fails (fr := fr - 1) hM.1 (by omega) _) rfl rfl (Nat.le_of_ble_eq_true rfl) (by omega) (by decide) (Nat.le_refl _) (Nat.le_refl _) dX4_adds_66 (fun hp hM => ?_)
      refine aw_iret hX (Nat.le_refl _) (Nat.le_refl _) dX4_adds_69 (hq _ _ ?_)
      first
        | (have e9 : mop_adds S (nI o) 3 w r a b = mBad S 2 := by (unfold mop_adds; simp [show mObj (S.1 0) (nI o) = true from b10, of_decide_eq_false b61])
           rw [e9]
           exact ⟨rfl, hM.cg (sV_sV S 1 0 2)⟩)
set_option maxHeartbeats 4000000 in
set_option maxRecDepth 100000 in
theorem c_X4_addForUser {D : Gd} {fr : Nat} {m : Nat} {ad : Nat → Nat} {S : Ms} {h : Hm} (hM : MW m ad S h) (hf : 5 ≤ fr) (ok : MOk S) (o w r : Int32) (a b : Bool) : MC D fr yX4_addForUser cX4_addForUser 6 (some .int) m ad h [.int o, .int w, .int r, .int (bI a), .int (bI b)] (some (.int (mop_adds S o 0 w r a b).2.1)) ((mop_adds S o 0 w r a b).2.2) := by
  refine AM.of (lv := [some (.ref m), some (.int o), some (.int w), some (.int r), some (.int (bI a)), some (.int (bI b))]) (by decide +kernel) (Nat.le_of_ble_eq_true rfl) rfl (fun z hX hq _ => ?_)
  have hM := hM.rf
  refine aw_ald0 hX dX4_addForUser_0 ?_
  refine aw_ild1 hX dX4_addForUser_1 ?_
  refine aw_iconst (v := 0) hX dX4_addForUser_2 (by decide) ?_
  refine aw_ild2 hX dX4_addForUser_3 ?_
  refine aw_ild3 hX dX4_addForUser_4 ?_
  refine aw_ild4 hX dX4_addForUser_5 ?_
  refine aw_ild5 hX dX4_addForUser_7 ?_
  refine mm_call hX hM lk_X4_108 rfl (c_X4_adds_0 (fr := fr - 1) hM.1 (by omega) ok o w r a b) rfl rfl (Nat.le_of_ble_eq_true rfl) (by omega) (by decide) (Nat.le_refl _) (Nat.le_refl _) dX4_addForUser_9 (fun hp hM => ?_)
  refine aw_iret hX (Nat.le_refl _) (Nat.le_refl _) dX4_addForUser_12 (hq _ _ ?_)
  exact ⟨rfl, hM⟩
set_option maxHeartbeats 4000000 in
set_option maxRecDepth 100000 in
theorem c_X4_addForGroup {D : Gd} {fr : Nat} {m : Nat} {ad : Nat → Nat} {S : Ms} {h : Hm} (hM : MW m ad S h) (hf : 5 ≤ fr) (ok : MOk S) (o w r : Int32) (a b : Bool) : MC D fr yX4_addForGroup cX4_addForGroup 6 (some .int) m ad h [.int o, .int w, .int r, .int (bI a), .int (bI b)] (some (.int (mop_adds S o 1 w r a b).2.1)) ((mop_adds S o 1 w r a b).2.2) := by
  refine AM.of (lv := [some (.ref m), some (.int o), some (.int w), some (.int r), some (.int (bI a)), some (.int (bI b))]) (by decide +kernel) (Nat.le_of_ble_eq_true rfl) rfl (fun z hX hq _ => ?_)
  have hM := hM.rf
  refine aw_ald0 hX dX4_addForGroup_0 ?_
  refine aw_ild1 hX dX4_addForGroup_1 ?_
  refine aw_iconst (v := 1) hX dX4_addForGroup_2 (by decide) ?_
  refine aw_ild2 hX dX4_addForGroup_3 ?_
  refine aw_ild3 hX dX4_addForGroup_4 ?_
  refine aw_ild4 hX dX4_addForGroup_5 ?_
  refine aw_ild5 hX dX4_addForGroup_7 ?_
  refine mm_call hX hM lk_X4_108 rfl (c_X4_adds_1 (fr := fr - 1) hM.1 (by omega) ok o w r a b) rfl rfl (Nat.le_of_ble_eq_true rfl) (by omega) (by decide) (Nat.le_refl _) (Nat.le_refl _) dX4_addForGroup_9 (fun hp hM => ?_)
  refine aw_iret hX (Nat.le_refl _) (Nat.le_refl _) dX4_addForGroup_12 (hq _ _ ?_)
  exact ⟨rfl, hM⟩
set_option maxHeartbeats 4000000 in
set_option maxRecDepth 100000 in
theorem c_X4_addForOwner {D : Gd} {fr : Nat} {m : Nat} {ad : Nat → Nat} {S : Ms} {h : Hm} (hM : MW m ad S h) (hf : 5 ≤ fr) (ok : MOk S) (o r : Int32) (a b : Bool) : MC D fr yX4_addForOwner cX4_addForOwner 5 (some .int) m ad h [.int o, .int r, .int (bI a), .int (bI b)] (some (.int (mop_adds S o 2 0 r a b).2.1)) ((mop_adds S o 2 0 r a b).2.2) := by
  refine AM.of (lv := [some (.ref m), some (.int o), some (.int r), some (.int (bI a)), some (.int (bI b))]) (by decide +kernel) (Nat.le_of_ble_eq_true rfl) rfl (fun z hX hq _ => ?_)
  have hM := hM.rf
  refine aw_ald0 hX dX4_addForOwner_0 ?_
  refine aw_ild1 hX dX4_addForOwner_1 ?_
  refine aw_iconst (v := 2) hX dX4_addForOwner_2 (by decide) ?_
  refine aw_iconst (v := 0) hX dX4_addForOwner_3 (by decide) ?_
  refine aw_ild2 hX dX4_addForOwner_4 ?_
  refine aw_ild3 hX dX4_addForOwner_5 ?_
  refine aw_ild4 hX dX4_addForOwner_6 ?_
  refine mm_call hX hM lk_X4_108 rfl (c_X4_adds_2 (fr := fr - 1) hM.1 (by omega) ok o 0 r a b) rfl rfl (Nat.le_of_ble_eq_true rfl) (by omega) (by decide) (Nat.le_refl _) (Nat.le_refl _) dX4_addForOwner_8 (fun hp hM => ?_)
  refine aw_iret hX (Nat.le_refl _) (Nat.le_refl _) dX4_addForOwner_11 (hq _ _ ?_)
  exact ⟨rfl, hM⟩
set_option maxHeartbeats 4000000 in
set_option maxRecDepth 100000 in
theorem c_X4_addForAll {D : Gd} {fr : Nat} {m : Nat} {ad : Nat → Nat} {S : Ms} {h : Hm} (hM : MW m ad S h) (hf : 5 ≤ fr) (ok : MOk S) (o r : Int32) (a b : Bool) : MC D fr yX4_addForAll cX4_addForAll 5 (some .int) m ad h [.int o, .int r, .int (bI a), .int (bI b)] (some (.int (mop_adds S o 3 0 r a b).2.1)) ((mop_adds S o 3 0 r a b).2.2) := by
  refine AM.of (lv := [some (.ref m), some (.int o), some (.int r), some (.int (bI a)), some (.int (bI b))]) (by decide +kernel) (Nat.le_of_ble_eq_true rfl) rfl (fun z hX hq _ => ?_)
  have hM := hM.rf
  refine aw_ald0 hX dX4_addForAll_0 ?_
  refine aw_ild1 hX dX4_addForAll_1 ?_
  refine aw_iconst (v := 3) hX dX4_addForAll_2 (by decide) ?_
  refine aw_iconst (v := 0) hX dX4_addForAll_3 (by decide) ?_
  refine aw_ild2 hX dX4_addForAll_4 ?_
  refine aw_ild3 hX dX4_addForAll_5 ?_
  refine aw_ild4 hX dX4_addForAll_6 ?_
  refine mm_call hX hM lk_X4_108 rfl (c_X4_adds_3 (fr := fr - 1) hM.1 (by omega) ok o 0 r a b) rfl rfl (Nat.le_of_ble_eq_true rfl) (by omega) (by decide) (Nat.le_refl _) (Nat.le_refl _) dX4_addForAll_8 (fun hp hM => ?_)
  refine aw_iret hX (Nat.le_refl _) (Nat.le_refl _) dX4_addForAll_11 (hq _ _ ?_)
  exact ⟨rfl, hM⟩
set_option maxHeartbeats 4000000 in
set_option maxRecDepth 100000 in
theorem c_X4_removeEntry {D : Gd} {fr : Nat} {m : Nat} {ad : Nat → Nat} {S : Ms} {h : Hm} (hM : MW m ad S h) (hf : 4 ≤ fr) (ok : MOk S) (o e : Int32) : MC D fr yX4_removeEntry cX4_removeEntry 3 (some .int) m ad h [.int o, .int e] (some (.int (mop_removeEntry S o e).2.1)) ((mop_removeEntry S o e).2.2) := by
  refine AM.of (lv := [some (.ref m), some (.int o), some (.int e)]) (by decide +kernel) (Nat.le_of_ble_eq_true rfl) rfl (fun z hX hq _ => ?_)
  have hM := hM.rf
  refine aw_ald0 hX dX4_removeEntry_0 ?_
  refine aw_iconst (v := 0) hX dX4_removeEntry_1 (by decide) ?_
  refine mm_put hX hM 1 fp_X4_39 (by decide) dX4_removeEntry_2 (fun hp hM => ?_)
  refine aw_ald0 hX dX4_removeEntry_5 ?_
  refine aw_ild1 hX dX4_removeEntry_6 ?_
  refine aw_ild2 hX dX4_removeEntry_7 ?_
  refine mm_call hX hM lk_X4_112 rfl (c_X4_isEntry (fr := fr - 1) hM.1 (by omega) _ _) rfl rfl (Nat.le_of_ble_eq_true rfl) (by omega) (by decide) (Nat.le_refl _) (Nat.le_refl _) dX4_removeEntry_8 (fun hp hM => ?_)
  refine aw_if_ne hX (tgt := 20) dX4_removeEntry_11 (by decide) (fun c11 => ?_) (fun c11 => ?_)
  · have b11 := bI_n0 c11
    obtain ⟨rk, hrk, hob⟩ := ok.rk
    obtain ⟨o, e, c, ho, rfl, ho1, hec, hc, rfl, ec⟩ := mEnt_of hob b11
    refine aw_ald0 hX dX4_removeEntry_20 ?_
    refine mm_call hX hM lk_X4_79 rfl (c_X4_changes (fr := fr - 1) hM.1 (by omega) ok.p) rfl rfl (Nat.le_of_ble_eq_true rfl) (by omega) (by decide) (Nat.le_refl _) (Nat.le_refl _) dX4_removeEntry_21 (fun hp hM => ?_)
    refine aw_ald0 hX dX4_removeEntry_24 ?_
    refine aw_ild1 hX dX4_removeEntry_25 ?_
    refine aw_ild2 hX dX4_removeEntry_26 ?_
    refine mm_call hX hM lk_X4_115 rfl (c_X4_takesOut (fr := fr - 1) hM.1 (by omega) o e c ho hec hc ec) rfl rfl (Nat.le_of_ble_eq_true rfl) (by omega) (by decide) (Nat.le_refl _) (Nat.le_refl _) dX4_removeEntry_27 (fun hp hM => ?_)
    refine aw_ald0 hX dX4_removeEntry_30 ?_
    refine aw_ild1 hX dX4_removeEntry_31 ?_
    refine aw_iconst (v := 5) hX dX4_removeEntry_32 (by decide) ?_
    refine mm_call hX hM lk_X4_54 rfl (c_X4_of (fr := fr - 1) hM.1 (by omega) o 5 ho (by decide)) rfl rfl (Nat.le_of_ble_eq_true rfl) (by omega) (by decide) (Nat.le_refl _) (Nat.le_refl _) dX4_removeEntry_33 (fun hp hM => ?_)
    refine aw_iret hX (Nat.le_refl _) (Nat.le_refl _) dX4_removeEntry_36 (hq _ _ ?_)
    first
      | (have e9 : mop_removeEntry S (nI o) (nI e) = (0, S.1 0 (mO o 5) - 1, sA (mC S) 0 (mTake (S.1 0) o e c)) := by (unfold mop_removeEntry; simp [show mEnt (S.1 0) (nI o) (nI e) = true from b11, mCo, mN, nI_clamp (show o < 2 ^ 31 by omega), nI_clamp (show e < 2 ^ 31 by omega), show S.1 0 (mO o 5) = nI c from ec, nI_clamp (show c < 2 ^ 31 by omega)])
         rw [e9]
         exact ⟨by rw [sA_at]; refine congrArg (fun x => some (Value.int x)) ?_; unfold mTake; rw [fill_out (by unfold mE mO; omega), pk_us]; rfl, hM.cg (rfl)⟩)
  · have b11 := bI_0' c11
    refine aw_ald0 hX dX4_removeEntry_14 ?_
    refine aw_iconst (v := 1) hX dX4_removeEntry_15 (by decide) ?_
    refine mm_call hX hM lk_X4_76 rfl (c_X4_fails (fr := fr - 1) hM.1 (by omega) 1) rfl rfl (Nat.le_of_ble_eq_true rfl) (by omega) (by decide) (Nat.le_refl _) (Nat.le_refl _) dX4_removeEntry_16 (fun hp hM => ?_)
    refine aw_iret hX (Nat.le_refl _) (Nat.le_refl _) dX4_removeEntry_19 (hq _ _ ?_)
    first
      | (have e9 : mop_removeEntry S o e = mBad S 1 := by (unfold mop_removeEntry; simp [show mEnt (S.1 0) o e = false from b11])
         rw [e9]
         exact ⟨rfl, hM.cg (sV_sV S 1 0 1)⟩)
set_option maxHeartbeats 4000000 in
set_option maxRecDepth 100000 in
theorem c_X4_keepsOne {D : Gd} {fr : Nat} {m : Nat} {ad : Nat → Nat} {S : Ms} {h : Hm} (hM : MW m ad S h) (hf : 3 ≤ fr) (o e : Nat) (ho : o < 20) (he : e < 6) : MC D fr yX4_keepsOne cX4_keepsOne 4 none m ad h [.int (nI o), .int (nI e)] (none) (sA S 6 (fill (fun k => S.1 0 (mE o e k)) (S.1 6) 0 5)) := by
  refine AM.of (lv := [some (.ref m), some (.int (nI o)), some (.int (nI e)), none]) (by decide +kernel) (Nat.le_of_ble_eq_true rfl) rfl (fun z hX hq _ => ?_)
  have hM := hM.rf
  refine aw_iconst (v := 0) hX dX4_keepsOne_0 (by decide) ?_
  refine aw_ist3 hX dX4_keepsOne_1 (by decide) rfl ?_
  refine gdown (N := 5) (P := fun i => ∀ (h9 : Hm), MR m ad (sA S 6 (fill (fun k => S.1 0 (mE o e k)) (S.1 6) 0 i)) h h9 → gW z 2 [some (.ref m), some (.int (nI o)), some (.int (nI e)), some (.int (nI i))] [] h9 0 0) (fun i hi ih h9 hM => ?_) 0 (Nat.zero_le _) _ (hM.cg (by rw [fill_0]; exact (sA_self S 6).symm))
  refine aw_ild3 hX dX4_keepsOne_2 ?_
  refine aw_iconst (v := 5) hX dX4_keepsOne_3 (by decide) ?_
  refine aw_icmp_ge hX (tgt := 26) dX4_keepsOne_4 (by decide) (fun c4 => ?_) (fun c4 => ?_)
  · refine aw_vret hX (Nat.le_refl _) (Nat.le_refl _) dX4_keepsOne_26 (hq _ _ ?_)
    have hi9 : i = 5 := Nat.le_antisymm hi (nle (a := 5) c4 (by omega) (by omega))
    subst hi9
    exact ⟨rfl, hM⟩
  · have hlt := nnle (a := 5) c4 (by omega) (by omega)
    refine aw_ald0 hX dX4_keepsOne_7 ?_
    refine mm_get hX hM fg_X4_29 rfl dX4_keepsOne_8 ?_
    refine aw_ild3 hX dX4_keepsOne_11 ?_
    refine aw_ald0 hX dX4_keepsOne_12 ?_
    refine aw_ild1 hX dX4_keepsOne_13 ?_
    refine aw_ild2 hX dX4_keepsOne_14 ?_
    refine aw_ild3 hX dX4_keepsOne_15 ?_
    refine mm_call hX hM lk_X4_122 rfl (c_X4_ofEntry (fr := fr - 1) hM.1 (by omega) o e i ho he hlt) rfl rfl (Nat.le_of_ble_eq_true rfl) (by omega) (by decide) (Nat.le_refl _) (Nat.le_refl _) dX4_keepsOne_16 (fun hp hM => ?_)
    refine mm_st hX hM (by decide) (i) (rfl) (by simp only [mLen]; omega) dX4_keepsOne_19 (fun hp hM => ?_)
    refine aw_inc3 hX dX4_keepsOne_20 (by decide) rfl ?_
    refine aw_goto hX (tgt := 2) dX4_keepsOne_23 (by decide) ?_
    exact ih hlt _ (hM.cg (by rw [sA_sA, sA_at, show (sA S 6 (fill (fun k => S.1 0 (mE o e k)) (S.1 6) 0 i)).1 0 = S.1 0 from rfl]; have h9 := fill_s (fun k => S.1 0 (mE o e k)) (S.1 6) 0 i; rw [Nat.zero_add] at h9; rw [h9]))
set_option maxHeartbeats 4000000 in
set_option maxRecDepth 100000 in
theorem c_X4_putsOne {D : Gd} {fr : Nat} {m : Nat} {ad : Nat → Nat} {S : Ms} {h : Hm} (hM : MW m ad S h) (hf : 3 ≤ fr) (o e c : Nat) (ho : o < 20) (he : e ≤ c) (hc : c ≤ 5) (ec : S.1 0 (mO o 5) = nI c) : MC D fr yX4_putsOne cX4_putsOne 4 none m ad h [.int (nI o), .int (nI e)] (none) (sA S 0 (fill (S.1 6) (mOpen (S.1 0) o e c) (mE o e 0) 5)) := by
  refine AM.of (lv := [some (.ref m), some (.int (nI o)), some (.int (nI e)), none]) (by decide +kernel) (Nat.le_of_ble_eq_true rfl) rfl (fun z hX hq _ => ?_)
  have hM := hM.rf
  refine aw_ald0 hX dX4_putsOne_0 ?_
  refine aw_ild1 hX dX4_putsOne_1 ?_
  refine aw_ild2 hX dX4_putsOne_2 ?_
  refine mm_call hX hM lk_X4_125 rfl (c_X4_opens (fr := fr - 1) hM.1 (by omega) o e c ho he hc ec) rfl rfl (Nat.le_of_ble_eq_true rfl) (by omega) (by decide) (Nat.le_refl _) (Nat.le_refl _) dX4_putsOne_3 (fun hp hM => ?_)
  refine aw_iconst (v := 0) hX dX4_putsOne_6 (by decide) ?_
  refine aw_ist3 hX dX4_putsOne_7 (by decide) rfl ?_
  refine gdown (N := 5) (P := fun i => ∀ (h9 : Hm), MR m ad (sA S 0 (fill (S.1 6) (mOpen (S.1 0) o e c) (mE o e 0) i)) h h9 → gW z 8 [some (.ref m), some (.int (nI o)), some (.int (nI e)), some (.int (nI i))] [] h9 0 0) (fun i hi ih h9 hM => ?_) 0 (Nat.zero_le _) _ (hM.cg (by rw [fill_0]))
  refine aw_ild3 hX dX4_putsOne_8 ?_
  refine aw_iconst (v := 5) hX dX4_putsOne_9 (by decide) ?_
  refine aw_icmp_ge hX (tgt := 36) dX4_putsOne_10 (by decide) (fun c10 => ?_) (fun c10 => ?_)
  · refine aw_vret hX (Nat.le_refl _) (Nat.le_refl _) dX4_putsOne_36 (hq _ _ ?_)
    have hi9 : i = 5 := Nat.le_antisymm hi (nle (a := 5) c10 (by omega) (by omega))
    subst hi9
    exact ⟨rfl, hM⟩
  · have hlt := nnle (a := 5) c10 (by omega) (by omega)
    refine aw_ald0 hX dX4_putsOne_13 ?_
    refine mm_get hX hM fg_X4_7 rfl dX4_putsOne_14 ?_
    refine aw_ild1 hX dX4_putsOne_17 ?_
    refine aw_ild2 hX dX4_putsOne_18 ?_
    refine aw_ild3 hX dX4_putsOne_19 ?_
    refine ss_call hX lk_X4_61 (c_X4_entryAt (fr := fr - 1) (by omega) _ _ _) rfl rfl (Nat.le_of_ble_eq_true rfl) (by omega) (by decide) (Nat.le_refl _) (Nat.le_refl _) dX4_putsOne_20 ?_
    refine aw_ald0 hX dX4_putsOne_23 ?_
    refine mm_get hX hM fg_X4_29 rfl dX4_putsOne_24 ?_
    refine aw_ild3 hX dX4_putsOne_27 ?_
    refine mm_ld hX hM (by decide) (i) (rfl) (by simp only [mLen]; omega) dX4_putsOne_28 ?_
    refine mm_st hX hM (by decide) (mE o e i) (mE_i o e i) (mE_lt ho (by omega) hlt) dX4_putsOne_29 (fun hp hM => ?_)
    refine aw_inc3 hX dX4_putsOne_30 (by decide) rfl ?_
    refine aw_goto hX (tgt := 8) dX4_putsOne_33 (by decide) ?_
    exact ih hlt _ (hM.cg (by rw [sA_sA, sA_at, show mE o e i = mE o e 0 + i from by unfold mE; omega]; exact congrArg (sA S 0) (fill_s (S.1 6) (mOpen (S.1 0) o e c) (mE o e 0) i)))
