/-! THE REFERENCE, printed by m16.py: a whole text read -/
set_option maxHeartbeats 4000000 in
set_option maxRecDepth 100000 in
theorem c_X4_wrong {D : Gd} {fr : Nat} {m : Nat} {ad : Nat → Nat} {S : Ms} {h : Hm} (hM : MW m ad S h) (hf : 5 ≤ fr) (t : Nat) (ht : S.2 2 = nI t) (ht8 : t ≤ 80) : MX D fr yX4_wrong cX4_wrong 2 (some .int) m ad h [] (pWrP S t) := by
  refine AM.of (lv := [some (.ref m), none]) (by decide +kernel) (Nat.le_of_ble_eq_true rfl) rfl (fun z hX hq _ => ?_)
  have hM := hM.rf
  have K63 : ∀ (m9 n k : Nat) (b : Bool) (S9 : Ms) (h9 : Hm) (pre : List (Nat → Int32)), m9 + n = 6 → pS3 S S9 → S9.2 3 = nI k → k ≤ t → S9.2 5 = nI n → (b = true → 1 ≤ m9) → S9.2 4 = (pNum (S.1 4) t 0 19).2.2 → pG S9 n pre → pPlan (S.1 4) t = ((pEnts (S.1 4) t m9 b k).1, (pNum (S.1 4) t 0 19).2.2, pre ++ (pEnts (S.1 4) t m9 b k).2) → MR m ad S9 h h9 → gW z 63 [some (.ref m), some (.int (bI b))] [] h9 0 0 := by
    intro m9
    induction m9 using Nat.strongRecOn with
    | _ m9 ih =>
      intro n k b S9 h9 pre e6 hs9 h39 hk9 h59 hb9 h49 hG hres hM
      have hp9 : S9.1 4 = S.1 4 := hs9.1 4 (by decide)
      have ht9 : Tk S9 k t := ⟨h39, hs9.2.2.2.trans ht, hk9, ht8⟩
      refine aw_ild1 hX dX4_wrong_63 ?_
      refine aw_if_eq hX (tgt := 106) dX4_wrong_64 (by decide) (fun c64 => ?_) (fun c64 => ?_)
      · have b64 := bI_0' c64
        subst b64
        rw [pEnts_0] at hres
        refine aw_ald0 hX dX4_wrong_106 ?_
        refine mm_get hX hM fg_X4_162 rfl dX4_wrong_107 ?_
        refine aw_ald0 hX dX4_wrong_110 ?_
        refine mm_get hX hM fg_X4_159 rfl dX4_wrong_111 ?_
        rw [h39, ht9.2.1]
        refine aw_icmp_ne hX (tgt := 121) dX4_wrong_114 (by decide) (fun c114 => ?_) (fun c114 => ?_)
        · refine aw_ald0 hX dX4_wrong_121 ?_
          refine mm_get hX hM fg_X4_162 rfl dX4_wrong_122 ?_
          refine aw_iret hX (Nat.le_refl _) (Nat.le_refl _) dX4_wrong_125 (hq _ _ ?_)
          refine ⟨_, ?_, hM⟩
          unfold pWrP
          rw [hres]
          refine ⟨?_, hs9, fun q => ⟨h49, n, by omega, h59, by rw [List.append_nil]; exact hG⟩⟩
          first
            | (rw [if_pos ((nI_eq (by omega) (by omega)).mp c114)])
            | (rw [if_neg (fun q => c114 (congrArg nI q))]; exact congrArg (fun x => some (Value.int x)) h39)
        · refine aw_iconst (v := -1) hX dX4_wrong_117 (by decide) ?_
          refine aw_goto hX (tgt := 125) dX4_wrong_118 (by decide) ?_
          refine aw_iret hX (Nat.le_refl _) (Nat.le_refl _) dX4_wrong_125 (hq _ _ ?_)
          refine ⟨_, ?_, hM⟩
          unfold pWrP
          rw [hres]
          refine ⟨?_, hs9, fun q => ⟨h49, n, by omega, h59, by rw [List.append_nil]; exact hG⟩⟩
          first
            | (rw [if_pos ((nI_eq (by omega) (by omega)).mp c114)])
            | (rw [if_neg (fun q => c114 (congrArg nI q))]; exact congrArg (fun x => some (Value.int x)) h39)
      · have b64 := bI_n0 c64
        subst b64
        obtain ⟨m', rfl⟩ : ∃ m', m9 = m' + 1 := ⟨m9 - 1, by have := hb9 rfl; omega⟩
        refine aw_ald0 hX dX4_wrong_67 ?_
        refine mm_callx hX hM lk_X4_187 rfl (c_X4_entryRead (fr := fr - 1) hM.1 (by omega) t k n ht9 h59 (by omega)) rfl rfl (Nat.le_of_ble_eq_true rfl) (by omega) (by decide) (Nat.le_refl _) (Nat.le_refl _) dX4_wrong_68 (fun v9 S68 hp p9 hM => ?_)
        obtain ⟨rfl, w1, w2, w3⟩ := p9
        rw [hp9] at w2 w3 ⊢
        refine aw_if_ne hX (tgt := 79) dX4_wrong_71 (by decide) (fun c71 => ?_) (fun c71 => ?_)
        · have b71 := bI_n0 c71
          replace w3 := w3 b71
          have hk2 : (pEnt (S.1 4) t k).2.1 ≤ t := pEnt_le hk9
          have hp10 : S68.1 4 = S.1 4 := (w1.1 4 (by decide)).trans hp9
          have ht10 : Tk S68 (pEnt (S.1 4) t k).2.1 t := ⟨w2, w1.2.2.2.1.trans ht9.2.1, hk2, ht8⟩
          have hs2 := hs9.tr w1.to3
          have hG2 := hG.add w3.2.1 w3.2.2
          refine aw_ald0 hX dX4_wrong_79 ?_
          refine mm_get hX hM fg_X4_171 rfl dX4_wrong_80 ?_
          rw [w3.1]
          refine aw_bipush (v := 6) hX dX4_wrong_83 (by decide) ?_
          refine aw_icmp_ge hX (tgt := 101) dX4_wrong_85 (by decide) (fun c85 => ?_) (fun c85 => ?_)
          · have hge := nle (a := 6) c85 (by omega) (by omega)
            refine aw_iconst (v := 0) hX dX4_wrong_101 (by decide) ?_
            refine aw_ist1 hX dX4_wrong_102 (by decide) rfl ?_
            refine aw_goto hX (tgt := 63) dX4_wrong_103 (by decide) ?_
            first
              | (have hz : m' = 0 := by omega
                 subst hz
                 have hst := pEnts_s (m := 0) (mo := false) (k2 := (pEnt (S.1 4) t k).2.1) b71 rfl rfl
                 rw [hst] at hres
                 refine ih 0 (by omega) (n + 1) (pEnt (S.1 4) t k).2.1 false _ _ (pre ++ [(pEnt (S.1 4) t k).2.2]) (by omega) hs2 w2 hk2 w3.1 (fun q => by cases q) (w1.2.2.2.2.trans h49) (hG2.cg rfl) ?_ hM
                 rw [hres]
                 exact congrArg (fun x => (_, _, x)) (List.append_assoc pre [_] _).symm)
              | (have hb9 : pAt (S.1 4) t (pEnt (S.1 4) t k).2.1 59 59 = false := pAt_cg hp10 b94
                 have hst := pEnts_s (m := m') (mo := false) (k2 := (pEnt (S.1 4) t k).2.1) b71 (by rw [hb9, Bool.and_false]) rfl
                 rw [hst] at hres
                 refine ih m' (by omega) (n + 1) (pEnt (S.1 4) t k).2.1 false _ _ (pre ++ [(pEnt (S.1 4) t k).2.2]) (by omega) (hs2.v (Or.inl rfl)) (congrArg nI (pNx_0 b94)) hk2 w3.1 (fun q => by cases q) (w1.2.2.2.2.trans h49) (hG2.cg rfl) ?_ hM
                 rw [hres]
                 exact congrArg (fun x => (_, _, x)) (List.append_assoc pre [_] _).symm)
              | (have hb9 : pAt (S.1 4) t (pEnt (S.1 4) t k).2.1 59 59 = true := pAt_cg hp10 b94
                 have hst := pEnts_s (m := m') (mo := true) (k2 := ((pEnt (S.1 4) t k).2.1 + 1)) b71 (by rw [hb9, decide_eq_true (show 0 < m' by omega)]; rfl) rfl
                 rw [hst] at hres
                 refine ih m' (by omega) (n + 1) ((pEnt (S.1 4) t k).2.1 + 1) true _ _ (pre ++ [(pEnt (S.1 4) t k).2.2]) (by omega) (hs2.v (Or.inl rfl)) (congrArg nI (pNx_1 b94)) (pAt_lt hb9) w3.1 (fun q => by omega) (w1.2.2.2.2.trans h49) (hG2.cg rfl) ?_ hM
                 rw [hres]
                 exact congrArg (fun x => (_, _, x)) (List.append_assoc pre [_] _).symm)
          · have hlt := nnle (a := 6) c85 (by omega) (by omega)
            refine aw_ald0 hX dX4_wrong_88 ?_
            refine aw_bipush (v := 59) hX dX4_wrong_89 (by decide) ?_
            refine mm_call hX hM lk_X4_174 rfl (c_X4_sign (fr := fr - 1) hM.1 (by omega) t _ ht10 59) rfl rfl (Nat.le_of_ble_eq_true rfl) (by omega) (by decide) (Nat.le_refl _) (Nat.le_refl _) dX4_wrong_91 (fun hp hM => ?_)
            refine aw_if_eq hX (tgt := 101) dX4_wrong_94 (by decide) (fun c94 => ?_) (fun c94 => ?_)
            · have b94 := bI_0' c94
              refine aw_iconst (v := 0) hX dX4_wrong_101 (by decide) ?_
              refine aw_ist1 hX dX4_wrong_102 (by decide) rfl ?_
              refine aw_goto hX (tgt := 63) dX4_wrong_103 (by decide) ?_
              first
                | (have hz : m' = 0 := by omega
                   subst hz
                   have hst := pEnts_s (m := 0) (mo := false) (k2 := (pEnt (S.1 4) t k).2.1) b71 rfl rfl
                   rw [hst] at hres
                   refine ih 0 (by omega) (n + 1) (pEnt (S.1 4) t k).2.1 false _ _ (pre ++ [(pEnt (S.1 4) t k).2.2]) (by omega) hs2 w2 hk2 w3.1 (fun q => by cases q) (w1.2.2.2.2.trans h49) (hG2.cg rfl) ?_ hM
                   rw [hres]
                   exact congrArg (fun x => (_, _, x)) (List.append_assoc pre [_] _).symm)
                | (have hb9 : pAt (S.1 4) t (pEnt (S.1 4) t k).2.1 59 59 = false := pAt_cg hp10 b94
                   have hst := pEnts_s (m := m') (mo := false) (k2 := (pEnt (S.1 4) t k).2.1) b71 (by rw [hb9, Bool.and_false]) rfl
                   rw [hst] at hres
                   refine ih m' (by omega) (n + 1) (pEnt (S.1 4) t k).2.1 false _ _ (pre ++ [(pEnt (S.1 4) t k).2.2]) (by omega) (hs2.v (Or.inl rfl)) (congrArg nI (pNx_0 b94)) hk2 w3.1 (fun q => by cases q) (w1.2.2.2.2.trans h49) (hG2.cg rfl) ?_ hM
                   rw [hres]
                   exact congrArg (fun x => (_, _, x)) (List.append_assoc pre [_] _).symm)
                | (have hb9 : pAt (S.1 4) t (pEnt (S.1 4) t k).2.1 59 59 = true := pAt_cg hp10 b94
                   have hst := pEnts_s (m := m') (mo := true) (k2 := ((pEnt (S.1 4) t k).2.1 + 1)) b71 (by rw [hb9, decide_eq_true (show 0 < m' by omega)]; rfl) rfl
                   rw [hst] at hres
                   refine ih m' (by omega) (n + 1) ((pEnt (S.1 4) t k).2.1 + 1) true _ _ (pre ++ [(pEnt (S.1 4) t k).2.2]) (by omega) (hs2.v (Or.inl rfl)) (congrArg nI (pNx_1 b94)) (pAt_lt hb9) w3.1 (fun q => by omega) (w1.2.2.2.2.trans h49) (hG2.cg rfl) ?_ hM
                   rw [hres]
                   exact congrArg (fun x => (_, _, x)) (List.append_assoc pre [_] _).symm)
            · have b94 := bI_n0 c94
              refine aw_iconst (v := 1) hX dX4_wrong_97 (by decide) ?_
              refine aw_goto hX (tgt := 102) dX4_wrong_98 (by decide) ?_
              refine aw_ist1 hX dX4_wrong_102 (by decide) rfl ?_
              refine aw_goto hX (tgt := 63) dX4_wrong_103 (by decide) ?_
              first
                | (have hz : m' = 0 := by omega
                   subst hz
                   have hst := pEnts_s (m := 0) (mo := false) (k2 := (pEnt (S.1 4) t k).2.1) b71 rfl rfl
                   rw [hst] at hres
                   refine ih 0 (by omega) (n + 1) (pEnt (S.1 4) t k).2.1 false _ _ (pre ++ [(pEnt (S.1 4) t k).2.2]) (by omega) hs2 w2 hk2 w3.1 (fun q => by cases q) (w1.2.2.2.2.trans h49) (hG2.cg rfl) ?_ hM
                   rw [hres]
                   exact congrArg (fun x => (_, _, x)) (List.append_assoc pre [_] _).symm)
                | (have hb9 : pAt (S.1 4) t (pEnt (S.1 4) t k).2.1 59 59 = false := pAt_cg hp10 b94
                   have hst := pEnts_s (m := m') (mo := false) (k2 := (pEnt (S.1 4) t k).2.1) b71 (by rw [hb9, Bool.and_false]) rfl
                   rw [hst] at hres
                   refine ih m' (by omega) (n + 1) (pEnt (S.1 4) t k).2.1 false _ _ (pre ++ [(pEnt (S.1 4) t k).2.2]) (by omega) (hs2.v (Or.inl rfl)) (congrArg nI (pNx_0 b94)) hk2 w3.1 (fun q => by cases q) (w1.2.2.2.2.trans h49) (hG2.cg rfl) ?_ hM
                   rw [hres]
                   exact congrArg (fun x => (_, _, x)) (List.append_assoc pre [_] _).symm)
                | (have hb9 : pAt (S.1 4) t (pEnt (S.1 4) t k).2.1 59 59 = true := pAt_cg hp10 b94
                   have hst := pEnts_s (m := m') (mo := true) (k2 := ((pEnt (S.1 4) t k).2.1 + 1)) b71 (by rw [hb9, decide_eq_true (show 0 < m' by omega)]; rfl) rfl
                   rw [hst] at hres
                   refine ih m' (by omega) (n + 1) ((pEnt (S.1 4) t k).2.1 + 1) true _ _ (pre ++ [(pEnt (S.1 4) t k).2.2]) (by omega) (hs2.v (Or.inl rfl)) (congrArg nI (pNx_1 b94)) (pAt_lt hb9) w3.1 (fun q => by omega) (w1.2.2.2.2.trans h49) (hG2.cg rfl) ?_ hM
                   rw [hres]
                   exact congrArg (fun x => (_, _, x)) (List.append_assoc pre [_] _).symm)
        · have b71 := bI_0' c71
          refine aw_ald0 hX dX4_wrong_74 ?_
          refine mm_get hX hM fg_X4_162 rfl dX4_wrong_75 ?_
          refine aw_iret hX (Nat.le_refl _) (Nat.le_refl _) dX4_wrong_78 (hq _ _ ?_)
          rw [pEnts_f b71] at hres
          refine ⟨_, ?_, hM⟩
          rw [w2]
          exact pWrP_f hres (Nat.le_trans (pEnt_le hk9) ht8) (hs9.tr w1.to3)
  refine aw_ald0 hX dX4_wrong_0 ?_
  refine aw_iconst (v := 0) hX dX4_wrong_1 (by decide) ?_
  refine mm_put hX hM 3 fp_X4_162 (by decide) dX4_wrong_2 (fun hp hM => ?_)
  refine aw_ald0 hX dX4_wrong_5 ?_
  refine aw_iconst (v := 0) hX dX4_wrong_6 (by decide) ?_
  refine mm_put hX hM 5 fp_X4_171 (by decide) dX4_wrong_7 (fun hp hM => ?_)
  have ht1 : Tk (sV (sV S 3 0) 5 0) 0 t := ⟨rfl, ht, Nat.zero_le _, ht8⟩
  refine aw_ald0 hX dX4_wrong_10 ?_
  refine aw_bipush (v := 19) hX dX4_wrong_11 (by decide) ?_
  refine mm_call hX hM lk_X4_177 rfl (c_X4_number (fr := fr - 1) hM.1 (by omega) t 0 ht1 19) rfl rfl (Nat.le_of_ble_eq_true rfl) (by omega) (by decide) (Nat.le_refl _) (Nat.le_refl _) dX4_wrong_13 (fun hp hM => ?_)
  refine aw_if_eq hX (tgt := 28) dX4_wrong_16 (by decide) (fun c16 => ?_) (fun c16 => ?_)
  · have b16 := bI_0' c16
    refine aw_ald0 hX dX4_wrong_28 ?_
    refine aw_iconst (v := 0) hX dX4_wrong_29 (by decide) ?_
    refine mm_put hX hM 4 fp_X4_184 (by decide) dX4_wrong_30 (fun hp hM => ?_)
    refine aw_ald0 hX dX4_wrong_33 ?_
    refine mm_get hX hM fg_X4_162 rfl dX4_wrong_34 ?_
    refine aw_iret hX (Nat.le_refl _) (Nat.le_refl _) dX4_wrong_37 (hq _ _ ?_)
    refine ⟨_, ?_, hM⟩
    have h31 : (pNumS (sV (sV S 3 0) 5 0) (pNum (S.1 4) t 0 19)).2 3 = nI (pNum (S.1 4) t 0 19).2.1 := pNumS_3 (fun q => by rw [pNum_f q]; rfl)
    rw [show (sV (pNumS (sV (sV S 3 0) 5 0) (pNum ((sV (sV S 3 0) 5 0).1 4) t 0 19)) 4 0).2 3 = nI (pNum (S.1 4) t 0 19).2.1 from h31]
    exact pWrP_f (pPlan_0 b16) (Nat.le_trans (pNum_le (Nat.zero_le _)) ht8) ((((((pS3.rf S).v (Or.inl rfl)).v (Or.inr (Or.inr (Or.inl rfl))))).tr (pNumS_sm _ _).to3).v (Or.inr (Or.inl rfl)))
  · have b16 := bI_n0 c16
    have hs1 : pS3 S (pNumS (sV (sV S 3 0) 5 0) (pNum (S.1 4) t 0 19)) := ((((pS3.rf S).v (Or.inl rfl)).v (Or.inr (Or.inr (Or.inl rfl))))).tr (pNumS_sm _ _).to3
    have hk1 : (pNum (S.1 4) t 0 19).2.1 ≤ t := pNum_le (Nat.zero_le _)
    have h31 : (pNumS (sV (sV S 3 0) 5 0) (pNum (S.1 4) t 0 19)).2 3 = nI (pNum (S.1 4) t 0 19).2.1 := pNumS_3 (fun q => by rw [pNum_f q]; rfl)
    have h51 : (pNumS (sV (sV S 3 0) 5 0) (pNum (S.1 4) t 0 19)).2 5 = nI 0 := (pNumS_5 _ _).trans rfl
    have hp1 : (pNumS (sV (sV S 3 0) 5 0) (pNum (S.1 4) t 0 19)).1 4 = S.1 4 := hs1.1 4 (by decide)
    have ht2 : Tk (pNumS (sV (sV S 3 0) 5 0) (pNum (S.1 4) t 0 19)) (pNum (S.1 4) t 0 19).2.1 t := ⟨h31, hs1.2.2.2.trans ht, hk1, ht8⟩
    refine aw_ald0 hX dX4_wrong_19 ?_
    refine aw_bipush (v := 58) hX dX4_wrong_20 (by decide) ?_
    refine mm_call hX hM lk_X4_174 rfl (c_X4_sign (fr := fr - 1) hM.1 (by omega) t _ ht2 58) rfl rfl (Nat.le_of_ble_eq_true rfl) (by omega) (by decide) (Nat.le_refl _) (Nat.le_refl _) dX4_wrong_22 (fun hp hM => ?_)
    rw [show (sV (sV S 3 0) 5 0).1 4 = S.1 4 from rfl, hp1] at hM ⊢
    refine aw_if_ne hX (tgt := 38) dX4_wrong_25 (by decide) (fun c25 => ?_) (fun c25 => ?_)
    · have b25 := bI_n0 c25
      refine aw_ald0 hX dX4_wrong_38 ?_
      refine aw_ald0 hX dX4_wrong_39 ?_
      refine mm_get hX hM fg_X4_168 rfl dX4_wrong_40 ?_
      refine mm_put hX hM 4 fp_X4_184 (by decide) dX4_wrong_43 (fun hp hM => ?_)
      refine aw_ald0 hX dX4_wrong_46 ?_
      refine mm_get hX hM fg_X4_162 rfl dX4_wrong_47 ?_
      refine aw_ald0 hX dX4_wrong_50 ?_
      refine mm_get hX hM fg_X4_159 rfl dX4_wrong_51 ?_
      rw [show (sV (sV (pNumS (sV (sV S 3 0) 5 0) (pNum (S.1 4) t 0 19)) 3 (nI (pNx (S.1 4) t (pNum (S.1 4) t 0 19).2.1 58))) 4 _).2 3 = nI ((pNum (S.1 4) t 0 19).2.1 + 1) from congrArg nI (pNx_1 (show pAt (S.1 4) t (pNum (S.1 4) t 0 19).2.1 58 58 = true from b25)), show (sV (sV (pNumS (sV (sV S 3 0) 5 0) (pNum (S.1 4) t 0 19)) 3 (nI (pNx (S.1 4) t (pNum (S.1 4) t 0 19).2.1 58))) 4 _).2 2 = nI t from hs1.2.2.2.trans ht]
      refine aw_icmp_ge hX (tgt := 61) dX4_wrong_54 (by decide) (fun c54 => ?_) (fun c54 => ?_)
      · refine aw_iconst (v := 0) hX dX4_wrong_61 (by decide) ?_
        refine aw_ist1 hX dX4_wrong_62 (by decide) rfl ?_
        have hb8 : pAt (S.1 4) t (pNum (S.1 4) t 0 19).2.1 58 58 = true := b25
        first
          | exact K63 6 0 ((pNum (S.1 4) t 0 19).2.1 + 1) true _ _ [] rfl (((hs1.v (Or.inl rfl))).v (Or.inr (Or.inl rfl))) (congrArg nI (pNx_1 hb8)) (pAt_lt hb8) h51 (fun _ => by omega) (pNumS_6 b16) ⟨rfl, fun i hi => by omega⟩ (pPlan_2 b16 hb8 (decide_eq_true (nnle c54 (by omega) (by omega))).symm) hM
          | exact K63 6 0 ((pNum (S.1 4) t 0 19).2.1 + 1) false _ _ [] rfl (((hs1.v (Or.inl rfl))).v (Or.inr (Or.inl rfl))) (congrArg nI (pNx_1 hb8)) (pAt_lt hb8) h51 (fun q => by cases q) (pNumS_6 b16) ⟨rfl, fun i hi => by omega⟩ (pPlan_2 b16 hb8 (decide_eq_false (Nat.not_lt.mpr (nle c54 (by omega) (by omega)))).symm) hM
      · refine aw_iconst (v := 1) hX dX4_wrong_57 (by decide) ?_
        refine aw_goto hX (tgt := 62) dX4_wrong_58 (by decide) ?_
        refine aw_ist1 hX dX4_wrong_62 (by decide) rfl ?_
        have hb8 : pAt (S.1 4) t (pNum (S.1 4) t 0 19).2.1 58 58 = true := b25
        first
          | exact K63 6 0 ((pNum (S.1 4) t 0 19).2.1 + 1) true _ _ [] rfl (((hs1.v (Or.inl rfl))).v (Or.inr (Or.inl rfl))) (congrArg nI (pNx_1 hb8)) (pAt_lt hb8) h51 (fun _ => by omega) (pNumS_6 b16) ⟨rfl, fun i hi => by omega⟩ (pPlan_2 b16 hb8 (decide_eq_true (nnle c54 (by omega) (by omega))).symm) hM
          | exact K63 6 0 ((pNum (S.1 4) t 0 19).2.1 + 1) false _ _ [] rfl (((hs1.v (Or.inl rfl))).v (Or.inr (Or.inl rfl))) (congrArg nI (pNx_1 hb8)) (pAt_lt hb8) h51 (fun q => by cases q) (pNumS_6 b16) ⟨rfl, fun i hi => by omega⟩ (pPlan_2 b16 hb8 (decide_eq_false (Nat.not_lt.mpr (nle c54 (by omega) (by omega)))).symm) hM
    · have b25 := bI_0' c25
      refine aw_ald0 hX dX4_wrong_28 ?_
      refine aw_iconst (v := 0) hX dX4_wrong_29 (by decide) ?_
      refine mm_put hX hM 4 fp_X4_184 (by decide) dX4_wrong_30 (fun hp hM => ?_)
      refine aw_ald0 hX dX4_wrong_33 ?_
      refine mm_get hX hM fg_X4_162 rfl dX4_wrong_34 ?_
      refine aw_iret hX (Nat.le_refl _) (Nat.le_refl _) dX4_wrong_37 (hq _ _ ?_)
      have hb8 : pAt (S.1 4) t (pNum (S.1 4) t 0 19).2.1 58 58 = false := b25
      refine ⟨_, ?_, hM⟩
      rw [show (sV (sV (pNumS (sV (sV S 3 0) 5 0) (pNum (S.1 4) t 0 19)) 3 (nI (pNx (S.1 4) t (pNum (S.1 4) t 0 19).2.1 58))) 4 0).2 3 = nI (pNum (S.1 4) t 0 19).2.1 from congrArg nI (pNx_0 hb8)]
      exact pWrP_f (pPlan_1 b16 hb8) (by omega) ((hs1.v (Or.inl rfl)).v (Or.inr (Or.inl rfl)))
